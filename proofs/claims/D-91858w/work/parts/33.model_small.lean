set_option maxRecDepth 100000
def f_X8_thrown (I : Nat → Int32) : Int32 :=
  (I 0)
abbrev q_X8_thrown (D : va_G) (k : KK) (o : Nat) (r : Nat → Nat) (mv : Value) (fr : Value) (I : Nat → Int32) (L : Nat → Int64) (A : Nat → Prop) : Array Value → State → Outcome → State → Prop := va_Qi (fun (r_ : Int32) (u : Int32) => r_ = u ∧ u = f_X8_thrown I) (bx D (fun u => [(o, eMM r mv fr I L)]) A) A
abbrev rm_X8_thrown : Room := { frames := 1, cells := 0, slots := 0, locals := 40 }
theorem xo_X8_thrown : xok yX8_thrown 0 := by unfold xok; decide +kernel
set_option maxHeartbeats 8000000 in
theorem m_X8_thrown (l : Launch) (D : va_G) (k : KK) (sz : Nat) (o : Nat) (r : Nat → Nat) (mv : Value) (fr : Value) (I : Nat → Int32) (L : Nat → Int64)  : Met l yX8_thrown (ws_ yX8_thrown cX8_thrown 1 (some .int)) rm_X8_thrown (pcx D k [.ref o] sz [(o, eMM r mv fr I L)] (fun _ => True)) (q_X8_thrown D k o r mv fr I L (va_A [(o, eMM r mv fr I L)] sz)) 0 0 (va_A [(o, eMM r mv fr I L)] sz) := by
  refine Met.start (Qc := q_X8_thrown D k o r mv fr I L) (by decide) (Nat.le_of_ble_eq_true rfl) ?_
  intro p e s m below meth c A hx hb hr hlocks hml hown hin hts hg hP hD hA hAn hS hY hsz ls hl
  have hown : s.vm.findClass RX8 = some m.cls := hown
  have hl : lv_has ls 1 [(0, .ref o)] := hl
  refine lv_aload_n hx hb dX8_thrown_0 rfl (lv_at hl 0 rfl) ?_
  refine va_get (D := D) (ci := 10) (v := .int (I 0)) (C := RX8) (T := TX8) (N := 37) hx hb hts in_X8 hown hg.1 hP 0 rfl rfl 0 (Nat.le_of_ble_eq_true rfl) (hts _ q1141) (fun _ h9 => h9) rfl dX8_thrown_1 ?_
  exact xret_i hx hb hr hlocks (Nat.le_of_ble_eq_true rfl) (Nat.le_of_ble_eq_true rfl) hS.2.2 dX8_thrown_4 (fun t ht => ⟨⟨(I 0), (I 0), rfl, ⟨rfl, rfl⟩, by rw [ht]; exact hP, hD⟩, hS.F ht⟩)

def f_X8_fault (I : Nat → Int32) : Int32 × Int32 :=
  ((I 13), 0)
abbrev q_X8_fault (D : va_G) (k : KK) (o : Nat) (r : Nat → Nat) (mv : Value) (fr : Value) (I : Nat → Int32) (L : Nat → Int64) (A : Nat → Prop) : Array Value → State → Outcome → State → Prop := va_Qi (fun (r_ : Int32) (u : Int32 × Int32) => r_ = u.1 ∧ u = f_X8_fault I) (bx D (fun u => [(o, eMM r mv fr (upd I 0 u.2) L)]) A) A
abbrev rm_X8_fault : Room := { frames := 1, cells := 0, slots := 0, locals := 40 }
theorem xo_X8_fault : xok yX8_fault 0 := by unfold xok; decide +kernel
set_option maxHeartbeats 8000000 in
theorem m_X8_fault (l : Launch) (D : va_G) (k : KK) (sz : Nat) (o : Nat) (r : Nat → Nat) (mv : Value) (fr : Value) (I : Nat → Int32) (L : Nat → Int64)  : Met l yX8_fault (ws_ yX8_fault cX8_fault 1 (some .int)) rm_X8_fault (pcx D k [.ref o] sz [(o, eMM r mv fr I L)] (fun _ => True)) (q_X8_fault D k o r mv fr I L (va_A [(o, eMM r mv fr I L)] sz)) 0 0 (va_A [(o, eMM r mv fr I L)] sz) := by
  refine Met.start (Qc := q_X8_fault D k o r mv fr I L) (by decide) (Nat.le_of_ble_eq_true rfl) ?_
  intro p e s m below meth c A hx hb hr hlocks hml hown hin hts hg hP hD hA hAn hS hY hsz ls hl
  have hown : s.vm.findClass RX8 = some m.cls := hown
  have hl : lv_has ls 1 [(0, .ref o)] := hl
  refine lv_aload_n hx hb dX8_fault_0 rfl (lv_at hl 0 rfl) ?_
  refine lv_iconst (v := 0) hx hb dX8_fault_1 ci_0 ?_
  refine va_put (D := D) (ci := 10) (v := .int 0) (C := RX8) (T := TX8) (N := 37) hx hb hts in_X8 tyX8 tyX8_ok nmX8 hown hg.1 hP hD hS 0 rfl rfl 0 (Nat.le_of_ble_eq_true rfl) (hts _ q1141) (fun _ h9 => h9) rfl ftX8_0 rfl rfl (Nat.le_of_ble_eq_true rfl) dX8_fault_2 (fun H locs hP hD hS => ?_)
  replace hP : va_P D vwCl [(o, eMM r mv fr (upd I 0 0) L)] H := hP
  replace hD : va_D A [(o, eMM r mv fr (upd I 0 0) L)] := hD
  refine lv_aload_n hx hb dX8_fault_5 rfl (lv_at hl 0 rfl) ?_
  refine va_get (D := D) (ci := 10) (v := .int (I 13)) (C := RX8) (T := TX8) (N := 37) hx hb hts in_X8 hown hg.1 hP 0 rfl rfl 13 (Nat.le_of_ble_eq_true rfl) (hts _ q1154) (fun _ h9 => h9) rfl dX8_fault_6 ?_
  exact xret_i hx hb hr hlocks (Nat.le_of_ble_eq_true rfl) (Nat.le_of_ble_eq_true rfl) hS.2.2 dX8_fault_9 (fun t ht => ⟨⟨(I 13), ((I 13), 0), rfl, ⟨rfl, rfl⟩, by rw [ht]; exact hP, hD⟩, hS.F ht⟩)

def f_X8_where (I : Nat → Int32) : Int32 × Int32 :=
  ((I 2), 0)
abbrev q_X8_where (D : va_G) (k : KK) (o : Nat) (r : Nat → Nat) (mv : Value) (fr : Value) (I : Nat → Int32) (L : Nat → Int64) (A : Nat → Prop) : Array Value → State → Outcome → State → Prop := va_Qi (fun (r_ : Int32) (u : Int32 × Int32) => r_ = u.1 ∧ u = f_X8_where I) (bx D (fun u => [(o, eMM r mv fr (upd I 0 u.2) L)]) A) A
abbrev rm_X8_where : Room := { frames := 1, cells := 0, slots := 0, locals := 40 }
theorem xo_X8_where : xok yX8_where 0 := by unfold xok; decide +kernel
set_option maxHeartbeats 8000000 in
theorem m_X8_where (l : Launch) (D : va_G) (k : KK) (sz : Nat) (o : Nat) (r : Nat → Nat) (mv : Value) (fr : Value) (I : Nat → Int32) (L : Nat → Int64)  : Met l yX8_where (ws_ yX8_where cX8_where 1 (some .int)) rm_X8_where (pcx D k [.ref o] sz [(o, eMM r mv fr I L)] (fun _ => True)) (q_X8_where D k o r mv fr I L (va_A [(o, eMM r mv fr I L)] sz)) 0 0 (va_A [(o, eMM r mv fr I L)] sz) := by
  refine Met.start (Qc := q_X8_where D k o r mv fr I L) (by decide) (Nat.le_of_ble_eq_true rfl) ?_
  intro p e s m below meth c A hx hb hr hlocks hml hown hin hts hg hP hD hA hAn hS hY hsz ls hl
  have hown : s.vm.findClass RX8 = some m.cls := hown
  have hl : lv_has ls 1 [(0, .ref o)] := hl
  refine lv_aload_n hx hb dX8_where_0 rfl (lv_at hl 0 rfl) ?_
  refine lv_iconst (v := 0) hx hb dX8_where_1 ci_0 ?_
  refine va_put (D := D) (ci := 10) (v := .int 0) (C := RX8) (T := TX8) (N := 37) hx hb hts in_X8 tyX8 tyX8_ok nmX8 hown hg.1 hP hD hS 0 rfl rfl 0 (Nat.le_of_ble_eq_true rfl) (hts _ q1141) (fun _ h9 => h9) rfl ftX8_0 rfl rfl (Nat.le_of_ble_eq_true rfl) dX8_where_2 (fun H locs hP hD hS => ?_)
  replace hP : va_P D vwCl [(o, eMM r mv fr (upd I 0 0) L)] H := hP
  replace hD : va_D A [(o, eMM r mv fr (upd I 0 0) L)] := hD
  refine lv_aload_n hx hb dX8_where_5 rfl (lv_at hl 0 rfl) ?_
  refine va_get (D := D) (ci := 10) (v := .int (I 2)) (C := RX8) (T := TX8) (N := 37) hx hb hts in_X8 hown hg.1 hP 0 rfl rfl 2 (Nat.le_of_ble_eq_true rfl) (hts _ q1143) (fun _ h9 => h9) rfl dX8_where_6 ?_
  exact xret_i hx hb hr hlocks (Nat.le_of_ble_eq_true rfl) (Nat.le_of_ble_eq_true rfl) hS.2.2 dX8_where_9 (fun t ht => ⟨⟨(I 2), ((I 2), 0), rfl, ⟨rfl, rfl⟩, by rw [ht]; exact hP, hD⟩, hS.F ht⟩)

def f_X8_forget (I : Nat → Int32) : Int32 × Int32 × Int32 :=
  let x1 := (I 23)
  (x1, 0, 0)
abbrev q_X8_forget (D : va_G) (k : KK) (o : Nat) (r : Nat → Nat) (mv : Value) (fr : Value) (I : Nat → Int32) (L : Nat → Int64) (A : Nat → Prop) : Array Value → State → Outcome → State → Prop := va_Qi (fun (r_ : Int32) (u : Int32 × Int32 × Int32) => r_ = u.1 ∧ u = f_X8_forget I) (bx D (fun u => [(o, eMM r mv fr (upd (upd I 0 u.2.1) 23 u.2.2) L)]) A) A
abbrev rm_X8_forget : Room := { frames := 1, cells := 0, slots := 0, locals := 40 }
theorem xo_X8_forget : xok yX8_forget 0 := by unfold xok; decide +kernel
set_option maxHeartbeats 8000000 in
theorem m_X8_forget (l : Launch) (D : va_G) (k : KK) (sz : Nat) (o : Nat) (r : Nat → Nat) (mv : Value) (fr : Value) (I : Nat → Int32) (L : Nat → Int64)  : Met l yX8_forget (ws_ yX8_forget cX8_forget 2 (some .int)) rm_X8_forget (pcx D k [.ref o] sz [(o, eMM r mv fr I L)] (fun _ => True)) (q_X8_forget D k o r mv fr I L (va_A [(o, eMM r mv fr I L)] sz)) 0 0 (va_A [(o, eMM r mv fr I L)] sz) := by
  refine Met.start (Qc := q_X8_forget D k o r mv fr I L) (by decide) (Nat.le_of_ble_eq_true rfl) ?_
  intro p e s m below meth c A hx hb hr hlocks hml hown hin hts hg hP hD hA hAn hS hY hsz ls hl
  have hown : s.vm.findClass RX8 = some m.cls := hown
  have hl : lv_has ls 2 [(0, .ref o)] := hl
  refine lv_aload_n hx hb dX8_forget_0 rfl (lv_at hl 0 rfl) ?_
  refine lv_iconst (v := 0) hx hb dX8_forget_1 ci_0 ?_
  refine va_put (D := D) (ci := 10) (v := .int 0) (C := RX8) (T := TX8) (N := 37) hx hb hts in_X8 tyX8 tyX8_ok nmX8 hown hg.1 hP hD hS 0 rfl rfl 0 (Nat.le_of_ble_eq_true rfl) (hts _ q1141) (fun _ h9 => h9) rfl ftX8_0 rfl rfl (Nat.le_of_ble_eq_true rfl) dX8_forget_2 (fun H locs hP hD hS => ?_)
  replace hP : va_P D vwCl [(o, eMM r mv fr (upd I 0 0) L)] H := hP
  replace hD : va_D A [(o, eMM r mv fr (upd I 0 0) L)] := hD
  refine lv_aload_n hx hb dX8_forget_5 rfl (lv_at hl 0 rfl) ?_
  refine va_get (D := D) (ci := 10) (v := .int (I 23)) (C := RX8) (T := TX8) (N := 37) hx hb hts in_X8 hown hg.1 hP 0 rfl rfl 23 (Nat.le_of_ble_eq_true rfl) (hts _ q1164) (fun _ h9 => h9) rfl dX8_forget_6 ?_
  refine lv_topi (fun x1 ex1 => ?_)
  refine lv_istore_n (lv' := [(1, .int x1), (0, .ref o)]) hx hb dX8_forget_9 rfl hl (Nat.le_of_ble_eq_true rfl) rfl (fun ls hl => ?_)
  refine lv_aload_n hx hb dX8_forget_10 rfl (lv_at hl 1 rfl) ?_
  refine lv_iconst (v := 0) hx hb dX8_forget_11 ci_0 ?_
  refine va_put (D := D) (ci := 10) (v := .int 0) (C := RX8) (T := TX8) (N := 37) hx hb hts in_X8 tyX8 tyX8_ok nmX8 hown hg.1 hP hD hS 0 rfl rfl 23 (Nat.le_of_ble_eq_true rfl) (hts _ q1164) (fun _ h9 => h9) rfl ftX8_23 rfl rfl (Nat.le_of_ble_eq_true rfl) dX8_forget_12 (fun H locs hP hD hS => ?_)
  replace hP : va_P D vwCl [(o, eMM r mv fr (upd (upd I 0 0) 23 0) L)] H := hP
  replace hD : va_D A [(o, eMM r mv fr (upd (upd I 0 0) 23 0) L)] := hD
  refine lv_iload_n hx hb dX8_forget_15 rfl (lv_at hl 0 rfl) ?_
  exact xret_i hx hb hr hlocks (Nat.le_of_ble_eq_true rfl) (Nat.le_of_ble_eq_true rfl) hS.2.2 dX8_forget_16 (fun t ht => ⟨⟨x1, (x1, 0, 0), rfl, ⟨rfl, (by subst ex1; exact rfl)⟩, by rw [ht]; exact hP, hD⟩, hS.F ht⟩)

def f_X8_trouble (I : Nat → Int32) : Int32 × Int32 :=
  ((I 1), 0)
abbrev q_X8_trouble (D : va_G) (k : KK) (o : Nat) (r : Nat → Nat) (mv : Value) (fr : Value) (I : Nat → Int32) (L : Nat → Int64) (A : Nat → Prop) : Array Value → State → Outcome → State → Prop := va_Qi (fun (r_ : Int32) (u : Int32 × Int32) => r_ = u.1 ∧ u = f_X8_trouble I) (bx D (fun u => [(o, eMM r mv fr (upd I 0 u.2) L)]) A) A
abbrev rm_X8_trouble : Room := { frames := 1, cells := 0, slots := 0, locals := 40 }
theorem xo_X8_trouble : xok yX8_trouble 0 := by unfold xok; decide +kernel
set_option maxHeartbeats 8000000 in
theorem m_X8_trouble (l : Launch) (D : va_G) (k : KK) (sz : Nat) (o : Nat) (r : Nat → Nat) (mv : Value) (fr : Value) (I : Nat → Int32) (L : Nat → Int64)  : Met l yX8_trouble (ws_ yX8_trouble cX8_trouble 1 (some .int)) rm_X8_trouble (pcx D k [.ref o] sz [(o, eMM r mv fr I L)] (fun _ => True)) (q_X8_trouble D k o r mv fr I L (va_A [(o, eMM r mv fr I L)] sz)) 0 0 (va_A [(o, eMM r mv fr I L)] sz) := by
  refine Met.start (Qc := q_X8_trouble D k o r mv fr I L) (by decide) (Nat.le_of_ble_eq_true rfl) ?_
  intro p e s m below meth c A hx hb hr hlocks hml hown hin hts hg hP hD hA hAn hS hY hsz ls hl
  have hown : s.vm.findClass RX8 = some m.cls := hown
  have hl : lv_has ls 1 [(0, .ref o)] := hl
  refine lv_aload_n hx hb dX8_trouble_0 rfl (lv_at hl 0 rfl) ?_
  refine lv_iconst (v := 0) hx hb dX8_trouble_1 ci_0 ?_
  refine va_put (D := D) (ci := 10) (v := .int 0) (C := RX8) (T := TX8) (N := 37) hx hb hts in_X8 tyX8 tyX8_ok nmX8 hown hg.1 hP hD hS 0 rfl rfl 0 (Nat.le_of_ble_eq_true rfl) (hts _ q1141) (fun _ h9 => h9) rfl ftX8_0 rfl rfl (Nat.le_of_ble_eq_true rfl) dX8_trouble_2 (fun H locs hP hD hS => ?_)
  replace hP : va_P D vwCl [(o, eMM r mv fr (upd I 0 0) L)] H := hP
  replace hD : va_D A [(o, eMM r mv fr (upd I 0 0) L)] := hD
  refine lv_aload_n hx hb dX8_trouble_5 rfl (lv_at hl 0 rfl) ?_
  refine va_get (D := D) (ci := 10) (v := .int (I 1)) (C := RX8) (T := TX8) (N := 37) hx hb hts in_X8 hown hg.1 hP 0 rfl rfl 1 (Nat.le_of_ble_eq_true rfl) (hts _ q1142) (fun _ h9 => h9) rfl dX8_trouble_6 ?_
  exact xret_i hx hb hr hlocks (Nat.le_of_ble_eq_true rfl) (Nat.le_of_ble_eq_true rfl) hS.2.2 dX8_trouble_9 (fun t ht => ⟨⟨(I 1), ((I 1), 0), rfl, ⟨rfl, rfl⟩, by rw [ht]; exact hP, hD⟩, hS.F ht⟩)

def f_X8_granted  : Int32 × Int32 × Int32 :=
  (1, 0, (-1))
abbrev q_X8_granted (D : va_G) (k : KK) (o : Nat) (r : Nat → Nat) (mv : Value) (fr : Value) (I : Nat → Int32) (L : Nat → Int64) (A : Nat → Prop) : Array Value → State → Outcome → State → Prop := va_Qi (fun (r_ : Int32) (u : Int32 × Int32 × Int32) => r_ = u.1 ∧ u = f_X8_granted ∧ (r_ = 0 ∨ r_ = 1)) (bx D (fun u => [(o, eMM r mv fr (upd (upd I 1 u.2.1) 2 u.2.2) L)]) A) A
abbrev rm_X8_granted : Room := { frames := 1, cells := 0, slots := 0, locals := 40 }
theorem xo_X8_granted : xok yX8_granted 0 := by unfold xok; decide +kernel
set_option maxHeartbeats 8000000 in
theorem m_X8_granted (l : Launch) (D : va_G) (k : KK) (sz : Nat) (o : Nat) (r : Nat → Nat) (mv : Value) (fr : Value) (I : Nat → Int32) (L : Nat → Int64)  : Met l yX8_granted (ws_ yX8_granted cX8_granted 1 (some .boolean)) rm_X8_granted (pcx D k [.ref o] sz [(o, eMM r mv fr I L)] (fun _ => True)) (q_X8_granted D k o r mv fr I L (va_A [(o, eMM r mv fr I L)] sz)) 0 0 (va_A [(o, eMM r mv fr I L)] sz) := by
  refine Met.start (Qc := q_X8_granted D k o r mv fr I L) (by decide) (Nat.le_of_ble_eq_true rfl) ?_
  intro p e s m below meth c A hx hb hr hlocks hml hown hin hts hg hP hD hA hAn hS hY hsz ls hl
  have hown : s.vm.findClass RX8 = some m.cls := hown
  have hl : lv_has ls 1 [(0, .ref o)] := hl
  refine lv_aload_n hx hb dX8_granted_0 rfl (lv_at hl 0 rfl) ?_
  refine lv_iconst (v := 0) hx hb dX8_granted_1 ci_0 ?_
  refine va_put (D := D) (ci := 10) (v := .int 0) (C := RX8) (T := TX8) (N := 37) hx hb hts in_X8 tyX8 tyX8_ok nmX8 hown hg.1 hP hD hS 0 rfl rfl 1 (Nat.le_of_ble_eq_true rfl) (hts _ q1142) (fun _ h9 => h9) rfl ftX8_1 rfl rfl (Nat.le_of_ble_eq_true rfl) dX8_granted_2 (fun H locs hP hD hS => ?_)
  replace hP : va_P D vwCl [(o, eMM r mv fr (upd I 1 0) L)] H := hP
  replace hD : va_D A [(o, eMM r mv fr (upd I 1 0) L)] := hD
  refine lv_aload_n hx hb dX8_granted_5 rfl (lv_at hl 0 rfl) ?_
  refine lv_iconst (v := (-1)) hx hb dX8_granted_6 ci_m1 ?_
  refine va_put (D := D) (ci := 10) (v := .int (-1)) (C := RX8) (T := TX8) (N := 37) hx hb hts in_X8 tyX8 tyX8_ok nmX8 hown hg.1 hP hD hS 0 rfl rfl 2 (Nat.le_of_ble_eq_true rfl) (hts _ q1143) (fun _ h9 => h9) rfl ftX8_2 rfl rfl (Nat.le_of_ble_eq_true rfl) dX8_granted_7 (fun H locs hP hD hS => ?_)
  replace hP : va_P D vwCl [(o, eMM r mv fr (upd (upd I 1 0) 2 (-1)) L)] H := hP
  replace hD : va_D A [(o, eMM r mv fr (upd (upd I 1 0) 2 (-1)) L)] := hD
  refine lv_iconst (v := 1) hx hb dX8_granted_10 ci_1 ?_
  exact xret_z hx hb hr hlocks (Nat.le_of_ble_eq_true rfl) (Nat.le_of_ble_eq_true rfl) hS.2.2 dX8_granted_11 (Or.inr rfl) (fun t ht => ⟨⟨1, (1, 0, (-1)), rfl, ⟨rfl, rfl, (Or.inr rfl)⟩, by rw [ht]; exact hP, hD⟩, hS.F ht⟩)

def f_X8_refused (why : Int32) : Int32 × Int32 × Int32 :=
  ((-1), why, (-1))
abbrev q_X8_refused (D : va_G) (k : KK) (o : Nat) (r : Nat → Nat) (mv : Value) (fr : Value) (I : Nat → Int32) (L : Nat → Int64) (why : Int32) (A : Nat → Prop) : Array Value → State → Outcome → State → Prop := va_Qi (fun (r_ : Int32) (u : Int32 × Int32 × Int32) => r_ = u.1 ∧ u = f_X8_refused why) (bx D (fun u => [(o, eMM r mv fr (upd (upd I 1 u.2.1) 2 u.2.2) L)]) A) A
abbrev rm_X8_refused : Room := { frames := 1, cells := 0, slots := 0, locals := 40 }
theorem xo_X8_refused : xok yX8_refused 1 := by unfold xok; decide +kernel
set_option maxHeartbeats 8000000 in
theorem m_X8_refused (l : Launch) (D : va_G) (k : KK) (sz : Nat) (o : Nat) (r : Nat → Nat) (mv : Value) (fr : Value) (I : Nat → Int32) (L : Nat → Int64) (why : Int32)  : Met l yX8_refused (ws_ yX8_refused cX8_refused 2 (some .int)) rm_X8_refused (pcx D k [.ref o, .int why] sz [(o, eMM r mv fr I L)] (fun _ => True)) (q_X8_refused D k o r mv fr I L why (va_A [(o, eMM r mv fr I L)] sz)) 0 0 (va_A [(o, eMM r mv fr I L)] sz) := by
  refine Met.start (Qc := q_X8_refused D k o r mv fr I L why) (by decide) (Nat.le_of_ble_eq_true rfl) ?_
  intro p e s m below meth c A hx hb hr hlocks hml hown hin hts hg hP hD hA hAn hS hY hsz ls hl
  have hown : s.vm.findClass RX8 = some m.cls := hown
  have hl : lv_has ls 2 [(0, .ref o), (1, .int why)] := hl
  refine lv_aload_n hx hb dX8_refused_0 rfl (lv_at hl 0 rfl) ?_
  refine lv_iload_n hx hb dX8_refused_1 rfl (lv_at hl 1 rfl) ?_
  refine va_put (D := D) (ci := 10) (v := .int why) (C := RX8) (T := TX8) (N := 37) hx hb hts in_X8 tyX8 tyX8_ok nmX8 hown hg.1 hP hD hS 0 rfl rfl 1 (Nat.le_of_ble_eq_true rfl) (hts _ q1142) (fun _ h9 => h9) rfl ftX8_1 rfl rfl (Nat.le_of_ble_eq_true rfl) dX8_refused_2 (fun H locs hP hD hS => ?_)
  replace hP : va_P D vwCl [(o, eMM r mv fr (upd I 1 why) L)] H := hP
  replace hD : va_D A [(o, eMM r mv fr (upd I 1 why) L)] := hD
  refine lv_aload_n hx hb dX8_refused_5 rfl (lv_at hl 0 rfl) ?_
  refine lv_iconst (v := (-1)) hx hb dX8_refused_6 ci_m1 ?_
  refine va_put (D := D) (ci := 10) (v := .int (-1)) (C := RX8) (T := TX8) (N := 37) hx hb hts in_X8 tyX8 tyX8_ok nmX8 hown hg.1 hP hD hS 0 rfl rfl 2 (Nat.le_of_ble_eq_true rfl) (hts _ q1143) (fun _ h9 => h9) rfl ftX8_2 rfl rfl (Nat.le_of_ble_eq_true rfl) dX8_refused_7 (fun H locs hP hD hS => ?_)
  replace hP : va_P D vwCl [(o, eMM r mv fr (upd (upd I 1 why) 2 (-1)) L)] H := hP
  replace hD : va_D A [(o, eMM r mv fr (upd (upd I 1 why) 2 (-1)) L)] := hD
  refine lv_iconst (v := (-1)) hx hb dX8_refused_10 ci_m1 ?_
  exact xret_i hx hb hr hlocks (Nat.le_of_ble_eq_true rfl) (Nat.le_of_ble_eq_true rfl) hS.2.2 dX8_refused_11 (fun t ht => ⟨⟨(-1), ((-1), why, (-1)), rfl, ⟨rfl, rfl⟩, by rw [ht]; exact hP, hD⟩, hS.F ht⟩)

def f_X8_denied (why : Int32) : Int32 × Int32 × Int32 :=
  (0, why, (-1))
abbrev q_X8_denied (D : va_G) (k : KK) (o : Nat) (r : Nat → Nat) (mv : Value) (fr : Value) (I : Nat → Int32) (L : Nat → Int64) (why : Int32) (A : Nat → Prop) : Array Value → State → Outcome → State → Prop := va_Qi (fun (r_ : Int32) (u : Int32 × Int32 × Int32) => r_ = u.1 ∧ u = f_X8_denied why ∧ (r_ = 0 ∨ r_ = 1)) (bx D (fun u => [(o, eMM r mv fr (upd (upd I 1 u.2.1) 2 u.2.2) L)]) A) A
abbrev rm_X8_denied : Room := { frames := 1, cells := 0, slots := 0, locals := 40 }
theorem xo_X8_denied : xok yX8_denied 1 := by unfold xok; decide +kernel
set_option maxHeartbeats 8000000 in
theorem m_X8_denied (l : Launch) (D : va_G) (k : KK) (sz : Nat) (o : Nat) (r : Nat → Nat) (mv : Value) (fr : Value) (I : Nat → Int32) (L : Nat → Int64) (why : Int32)  : Met l yX8_denied (ws_ yX8_denied cX8_denied 2 (some .boolean)) rm_X8_denied (pcx D k [.ref o, .int why] sz [(o, eMM r mv fr I L)] (fun _ => True)) (q_X8_denied D k o r mv fr I L why (va_A [(o, eMM r mv fr I L)] sz)) 0 0 (va_A [(o, eMM r mv fr I L)] sz) := by
  refine Met.start (Qc := q_X8_denied D k o r mv fr I L why) (by decide) (Nat.le_of_ble_eq_true rfl) ?_
  intro p e s m below meth c A hx hb hr hlocks hml hown hin hts hg hP hD hA hAn hS hY hsz ls hl
  have hown : s.vm.findClass RX8 = some m.cls := hown
  have hl : lv_has ls 2 [(0, .ref o), (1, .int why)] := hl
  refine lv_aload_n hx hb dX8_denied_0 rfl (lv_at hl 0 rfl) ?_
  refine lv_iload_n hx hb dX8_denied_1 rfl (lv_at hl 1 rfl) ?_
  refine va_put (D := D) (ci := 10) (v := .int why) (C := RX8) (T := TX8) (N := 37) hx hb hts in_X8 tyX8 tyX8_ok nmX8 hown hg.1 hP hD hS 0 rfl rfl 1 (Nat.le_of_ble_eq_true rfl) (hts _ q1142) (fun _ h9 => h9) rfl ftX8_1 rfl rfl (Nat.le_of_ble_eq_true rfl) dX8_denied_2 (fun H locs hP hD hS => ?_)
  replace hP : va_P D vwCl [(o, eMM r mv fr (upd I 1 why) L)] H := hP
  replace hD : va_D A [(o, eMM r mv fr (upd I 1 why) L)] := hD
  refine lv_aload_n hx hb dX8_denied_5 rfl (lv_at hl 0 rfl) ?_
  refine lv_iconst (v := (-1)) hx hb dX8_denied_6 ci_m1 ?_
  refine va_put (D := D) (ci := 10) (v := .int (-1)) (C := RX8) (T := TX8) (N := 37) hx hb hts in_X8 tyX8 tyX8_ok nmX8 hown hg.1 hP hD hS 0 rfl rfl 2 (Nat.le_of_ble_eq_true rfl) (hts _ q1143) (fun _ h9 => h9) rfl ftX8_2 rfl rfl (Nat.le_of_ble_eq_true rfl) dX8_denied_7 (fun H locs hP hD hS => ?_)
  replace hP : va_P D vwCl [(o, eMM r mv fr (upd (upd I 1 why) 2 (-1)) L)] H := hP
  replace hD : va_D A [(o, eMM r mv fr (upd (upd I 1 why) 2 (-1)) L)] := hD
  refine lv_iconst (v := 0) hx hb dX8_denied_10 ci_0 ?_
  exact xret_z hx hb hr hlocks (Nat.le_of_ble_eq_true rfl) (Nat.le_of_ble_eq_true rfl) hS.2.2 dX8_denied_11 (Or.inl rfl) (fun t ht => ⟨⟨0, (0, why, (-1)), rfl, ⟨rfl, rfl, (Or.inl rfl)⟩, by rw [ht]; exact hP, hD⟩, hS.F ht⟩)

def f_X8_done (why : Int32) : Int32 × Int32 × Int32 :=
  (why, 0, (-1))
abbrev q_X8_done (D : va_G) (k : KK) (o : Nat) (r : Nat → Nat) (mv : Value) (fr : Value) (I : Nat → Int32) (L : Nat → Int64) (why : Int32) (A : Nat → Prop) : Array Value → State → Outcome → State → Prop := va_Qi (fun (r_ : Int32) (u : Int32 × Int32 × Int32) => r_ = u.1 ∧ u = f_X8_done why) (bx D (fun u => [(o, eMM r mv fr (upd (upd I 1 u.2.1) 2 u.2.2) L)]) A) A
abbrev rm_X8_done : Room := { frames := 1, cells := 0, slots := 0, locals := 40 }
theorem xo_X8_done : xok yX8_done 1 := by unfold xok; decide +kernel
set_option maxHeartbeats 8000000 in
theorem m_X8_done (l : Launch) (D : va_G) (k : KK) (sz : Nat) (o : Nat) (r : Nat → Nat) (mv : Value) (fr : Value) (I : Nat → Int32) (L : Nat → Int64) (why : Int32)  : Met l yX8_done (ws_ yX8_done cX8_done 2 (some .int)) rm_X8_done (pcx D k [.ref o, .int why] sz [(o, eMM r mv fr I L)] (fun _ => True)) (q_X8_done D k o r mv fr I L why (va_A [(o, eMM r mv fr I L)] sz)) 0 0 (va_A [(o, eMM r mv fr I L)] sz) := by
  refine Met.start (Qc := q_X8_done D k o r mv fr I L why) (by decide) (Nat.le_of_ble_eq_true rfl) ?_
  intro p e s m below meth c A hx hb hr hlocks hml hown hin hts hg hP hD hA hAn hS hY hsz ls hl
  have hown : s.vm.findClass RX8 = some m.cls := hown
  have hl : lv_has ls 2 [(0, .ref o), (1, .int why)] := hl
  refine lv_aload_n hx hb dX8_done_0 rfl (lv_at hl 0 rfl) ?_
  refine lv_iconst (v := 0) hx hb dX8_done_1 ci_0 ?_
  refine va_put (D := D) (ci := 10) (v := .int 0) (C := RX8) (T := TX8) (N := 37) hx hb hts in_X8 tyX8 tyX8_ok nmX8 hown hg.1 hP hD hS 0 rfl rfl 1 (Nat.le_of_ble_eq_true rfl) (hts _ q1142) (fun _ h9 => h9) rfl ftX8_1 rfl rfl (Nat.le_of_ble_eq_true rfl) dX8_done_2 (fun H locs hP hD hS => ?_)
  replace hP : va_P D vwCl [(o, eMM r mv fr (upd I 1 0) L)] H := hP
  replace hD : va_D A [(o, eMM r mv fr (upd I 1 0) L)] := hD
  refine lv_aload_n hx hb dX8_done_5 rfl (lv_at hl 0 rfl) ?_
  refine lv_iconst (v := (-1)) hx hb dX8_done_6 ci_m1 ?_
  refine va_put (D := D) (ci := 10) (v := .int (-1)) (C := RX8) (T := TX8) (N := 37) hx hb hts in_X8 tyX8 tyX8_ok nmX8 hown hg.1 hP hD hS 0 rfl rfl 2 (Nat.le_of_ble_eq_true rfl) (hts _ q1143) (fun _ h9 => h9) rfl ftX8_2 rfl rfl (Nat.le_of_ble_eq_true rfl) dX8_done_7 (fun H locs hP hD hS => ?_)
  replace hP : va_P D vwCl [(o, eMM r mv fr (upd (upd I 1 0) 2 (-1)) L)] H := hP
  replace hD : va_D A [(o, eMM r mv fr (upd (upd I 1 0) 2 (-1)) L)] := hD
  refine lv_iload_n hx hb dX8_done_10 rfl (lv_at hl 1 rfl) ?_
  exact xret_i hx hb hr hlocks (Nat.le_of_ble_eq_true rfl) (Nat.le_of_ble_eq_true rfl) hS.2.2 dX8_done_11 (fun t ht => ⟨⟨why, (why, 0, (-1)), rfl, ⟨rfl, rfl⟩, by rw [ht]; exact hP, hD⟩, hS.F ht⟩)

def f_X8_in_j1 (v : Int32) (lo : Int32) (hi : Int32) : (Int32) :=
  if v < lo then
    0
  else
    if hi < v then
      0
    else
      1
def f_X8_in (v : Int32) (lo : Int32) (hi : Int32) : Int32 :=
  let v5 := f_X8_in_j1 v lo hi
  v5
abbrev q_X8_in (D : va_G) (k : KK) (v : Int32) (lo : Int32) (hi : Int32) (A : Nat → Prop) : Array Value → State → Outcome → State → Prop := va_Qi (fun (r_ : Int32) (u : Int32) => r_ = u ∧ u = f_X8_in v lo hi ∧ (r_ = 0 ∨ r_ = 1)) (bx D (fun u => []) A) A
abbrev rm_X8_in : Room := { frames := 1, cells := 0, slots := 0, locals := 40 }
theorem xo_X8_in : xok yX8_in 3 := by unfold xok; decide +kernel
set_option maxHeartbeats 8000000 in
theorem m_X8_in (l : Launch) (D : va_G) (k : KK) (sz : Nat) (v : Int32) (lo : Int32) (hi : Int32)  : Met l yX8_in (ws_ yX8_in cX8_in 3 (some .boolean)) rm_X8_in (pcx D k [.int v, .int lo, .int hi] sz [] (fun _ => True)) (q_X8_in D k v lo hi (va_A [] sz)) 0 0 (va_A [] sz) := by
  refine Met.start (Qc := q_X8_in D k v lo hi) (by decide) (Nat.le_of_ble_eq_true rfl) ?_
  intro p e s m below meth c A hx hb hr hlocks hml hown hin hts hg hP hD hA hAn hS hY hsz ls hl
  have hown : s.vm.findClass RX8 = some m.cls := hown
  have hl : lv_has ls 3 [(0, .int v), (1, .int lo), (2, .int hi)] := hl
  refine lv_iload_n hx hb dX8_in_0 rfl (lv_at hl 0 rfl) ?_
  refine lv_iload_n hx hb dX8_in_1 rfl (lv_at hl 1 rfl) ?_
  have Jn1 : ∀ (v5 : (Int32)) (H : Heap) (locs : List Loc) (ls : Array Slot), v5 = f_X8_in_j1 v lo hi → (v5 = 0 ∨ v5 = 1) → va_P D vwCl [] H → va_D A [] → va_S A s.heap H locs → lv_has ls 3 [(0, .int v), (1, .int lo), (2, .int hi)] → W p l e rm_X8_in s m ([.int v, .int lo, .int hi] : List Value).toArray below meth c H locs 0 0 (MQ below (q_X8_in D k v lo hi A) ([.int v, .int lo, .int hi] : List Value).toArray s 0 0 A) (F0 m 15 ls [.int v5]) := by
    intro v5 H locs ls ev5 bv5_0 hP hD hS hl
    exact xret_z hx hb hr hlocks (Nat.le_of_ble_eq_true rfl) (Nat.le_of_ble_eq_true rfl) hS.2.2 dX8_in_15 bv5_0 (fun t ht => ⟨⟨v5, v5, rfl, ⟨rfl, (by subst ev5; exact rfl), bv5_0⟩, by rw [ht]; exact hP, hD⟩, hS.F ht⟩)
  refine lv_icmp_lt (tgt := 14) hx hb dX8_in_2 (by decide) (fun c6 => ?_) (fun c6 => ?_)
  · refine lv_iconst (v := 0) hx hb dX8_in_14 ci_0 ?_
    exact Jn1 0 _ _ _ (by exact Eq.symm (Eq.trans (if_pos c6) (rfl))) (Or.inl rfl) hP hD hS (lv_sub hl [0, 1, 2] rfl)
  · refine lv_iload_n hx hb dX8_in_5 rfl (lv_at hl 0 rfl) ?_
    refine lv_iload_n hx hb dX8_in_6 rfl (lv_at hl 2 rfl) ?_
    refine lv_icmp_gt (tgt := 14) hx hb dX8_in_7 (by decide) (fun c7 => ?_) (fun c7 => ?_)
    · refine lv_iconst (v := 0) hx hb dX8_in_14 ci_0 ?_
      exact Jn1 0 _ _ _ (by exact Eq.symm (Eq.trans (if_neg c6) (Eq.trans (if_pos c7) (rfl)))) (Or.inl rfl) hP hD hS (lv_sub hl [0, 1, 2] rfl)
    · refine lv_iconst (v := 1) hx hb dX8_in_10 ci_1 ?_
      refine lv_goto (tgt := 15) hx hb dX8_in_11 (by decide) ?_
      exact Jn1 1 _ _ _ (by exact Eq.symm (Eq.trans (if_neg c6) (Eq.trans (if_neg c7) (rfl)))) (Or.inr rfl) hP hD hS (lv_sub hl [0, 1, 2] rfl)

def f_X8_isLetter_j1 (v : Int32) : (Int32) :=
  if v < 97 then
    0
  else
    if 122 < v then
      0
    else
      1
def f_X8_isLetter (v : Int32) : Int32 :=
  let v5 := f_X8_isLetter_j1 v
  v5
abbrev q_X8_isLetter (D : va_G) (k : KK) (v : Int32) (A : Nat → Prop) : Array Value → State → Outcome → State → Prop := va_Qi (fun (r_ : Int32) (u : Int32) => r_ = u ∧ u = f_X8_isLetter v ∧ (r_ = 0 ∨ r_ = 1)) (bx D (fun u => []) A) A
abbrev rm_X8_isLetter : Room := { frames := 1, cells := 0, slots := 0, locals := 40 }
theorem xo_X8_isLetter : xok yX8_isLetter 1 := by unfold xok; decide +kernel
set_option maxHeartbeats 8000000 in
theorem m_X8_isLetter (l : Launch) (D : va_G) (k : KK) (sz : Nat) (v : Int32)  : Met l yX8_isLetter (ws_ yX8_isLetter cX8_isLetter 1 (some .boolean)) rm_X8_isLetter (pcx D k [.int v] sz [] (fun _ => True)) (q_X8_isLetter D k v (va_A [] sz)) 0 0 (va_A [] sz) := by
  refine Met.start (Qc := q_X8_isLetter D k v) (by decide) (Nat.le_of_ble_eq_true rfl) ?_
  intro p e s m below meth c A hx hb hr hlocks hml hown hin hts hg hP hD hA hAn hS hY hsz ls hl
  have hown : s.vm.findClass RX8 = some m.cls := hown
  have hl : lv_has ls 1 [(0, .int v)] := hl
  refine lv_iload_n hx hb dX8_isLetter_0 rfl (lv_at hl 0 rfl) ?_
  refine lv_bipush (v := 97) hx hb dX8_isLetter_1 cb_97 ?_
  have Jn1 : ∀ (v5 : (Int32)) (H : Heap) (locs : List Loc) (ls : Array Slot), v5 = f_X8_isLetter_j1 v → (v5 = 0 ∨ v5 = 1) → va_P D vwCl [] H → va_D A [] → va_S A s.heap H locs → lv_has ls 1 [(0, .int v)] → W p l e rm_X8_isLetter s m ([.int v] : List Value).toArray below meth c H locs 0 0 (MQ below (q_X8_isLetter D k v A) ([.int v] : List Value).toArray s 0 0 A) (F0 m 17 ls [.int v5]) := by
    intro v5 H locs ls ev5 bv5_0 hP hD hS hl
    exact xret_z hx hb hr hlocks (Nat.le_of_ble_eq_true rfl) (Nat.le_of_ble_eq_true rfl) hS.2.2 dX8_isLetter_17 bv5_0 (fun t ht => ⟨⟨v5, v5, rfl, ⟨rfl, (by subst ev5; exact rfl), bv5_0⟩, by rw [ht]; exact hP, hD⟩, hS.F ht⟩)
  refine lv_icmp_lt (tgt := 16) hx hb dX8_isLetter_3 (by decide) (fun c6 => ?_) (fun c6 => ?_)
  · refine lv_iconst (v := 0) hx hb dX8_isLetter_16 ci_0 ?_
    exact Jn1 0 _ _ _ (by exact Eq.symm (Eq.trans (if_pos c6) (rfl))) (Or.inl rfl) hP hD hS (lv_sub hl [0] rfl)
  · refine lv_iload_n hx hb dX8_isLetter_6 rfl (lv_at hl 0 rfl) ?_
    refine lv_bipush (v := 122) hx hb dX8_isLetter_7 cb_122 ?_
    refine lv_icmp_gt (tgt := 16) hx hb dX8_isLetter_9 (by decide) (fun c7 => ?_) (fun c7 => ?_)
    · refine lv_iconst (v := 0) hx hb dX8_isLetter_16 ci_0 ?_
      exact Jn1 0 _ _ _ (by exact Eq.symm (Eq.trans (if_neg c6) (Eq.trans (if_pos c7) (rfl)))) (Or.inl rfl) hP hD hS (lv_sub hl [0] rfl)
    · refine lv_iconst (v := 1) hx hb dX8_isLetter_12 ci_1 ?_
      refine lv_goto (tgt := 17) hx hb dX8_isLetter_13 (by decide) ?_
      exact Jn1 1 _ _ _ (by exact Eq.symm (Eq.trans (if_neg c6) (Eq.trans (if_neg c7) (rfl)))) (Or.inr rfl) hP hD hS (lv_sub hl [0] rfl)

def f_X8_isDigit_j1 (v : Int32) : (Int32) :=
  if v < 48 then
    0
  else
    if 57 < v then
      0
    else
      1
def f_X8_isDigit (v : Int32) : Int32 :=
  let v5 := f_X8_isDigit_j1 v
  v5
abbrev q_X8_isDigit (D : va_G) (k : KK) (v : Int32) (A : Nat → Prop) : Array Value → State → Outcome → State → Prop := va_Qi (fun (r_ : Int32) (u : Int32) => r_ = u ∧ u = f_X8_isDigit v ∧ (r_ = 0 ∨ r_ = 1)) (bx D (fun u => []) A) A
abbrev rm_X8_isDigit : Room := { frames := 1, cells := 0, slots := 0, locals := 40 }
theorem xo_X8_isDigit : xok yX8_isDigit 1 := by unfold xok; decide +kernel
set_option maxHeartbeats 8000000 in
theorem m_X8_isDigit (l : Launch) (D : va_G) (k : KK) (sz : Nat) (v : Int32)  : Met l yX8_isDigit (ws_ yX8_isDigit cX8_isDigit 1 (some .boolean)) rm_X8_isDigit (pcx D k [.int v] sz [] (fun _ => True)) (q_X8_isDigit D k v (va_A [] sz)) 0 0 (va_A [] sz) := by
  refine Met.start (Qc := q_X8_isDigit D k v) (by decide) (Nat.le_of_ble_eq_true rfl) ?_
  intro p e s m below meth c A hx hb hr hlocks hml hown hin hts hg hP hD hA hAn hS hY hsz ls hl
  have hown : s.vm.findClass RX8 = some m.cls := hown
  have hl : lv_has ls 1 [(0, .int v)] := hl
  refine lv_iload_n hx hb dX8_isDigit_0 rfl (lv_at hl 0 rfl) ?_
  refine lv_bipush (v := 48) hx hb dX8_isDigit_1 cb_48 ?_
  have Jn1 : ∀ (v5 : (Int32)) (H : Heap) (locs : List Loc) (ls : Array Slot), v5 = f_X8_isDigit_j1 v → (v5 = 0 ∨ v5 = 1) → va_P D vwCl [] H → va_D A [] → va_S A s.heap H locs → lv_has ls 1 [(0, .int v)] → W p l e rm_X8_isDigit s m ([.int v] : List Value).toArray below meth c H locs 0 0 (MQ below (q_X8_isDigit D k v A) ([.int v] : List Value).toArray s 0 0 A) (F0 m 17 ls [.int v5]) := by
    intro v5 H locs ls ev5 bv5_0 hP hD hS hl
    exact xret_z hx hb hr hlocks (Nat.le_of_ble_eq_true rfl) (Nat.le_of_ble_eq_true rfl) hS.2.2 dX8_isDigit_17 bv5_0 (fun t ht => ⟨⟨v5, v5, rfl, ⟨rfl, (by subst ev5; exact rfl), bv5_0⟩, by rw [ht]; exact hP, hD⟩, hS.F ht⟩)
  refine lv_icmp_lt (tgt := 16) hx hb dX8_isDigit_3 (by decide) (fun c6 => ?_) (fun c6 => ?_)
  · refine lv_iconst (v := 0) hx hb dX8_isDigit_16 ci_0 ?_
    exact Jn1 0 _ _ _ (by exact Eq.symm (Eq.trans (if_pos c6) (rfl))) (Or.inl rfl) hP hD hS (lv_sub hl [0] rfl)
  · refine lv_iload_n hx hb dX8_isDigit_6 rfl (lv_at hl 0 rfl) ?_
    refine lv_bipush (v := 57) hx hb dX8_isDigit_7 cb_57 ?_
    refine lv_icmp_gt (tgt := 16) hx hb dX8_isDigit_9 (by decide) (fun c7 => ?_) (fun c7 => ?_)
    · refine lv_iconst (v := 0) hx hb dX8_isDigit_16 ci_0 ?_
      exact Jn1 0 _ _ _ (by exact Eq.symm (Eq.trans (if_neg c6) (Eq.trans (if_pos c7) (rfl)))) (Or.inl rfl) hP hD hS (lv_sub hl [0] rfl)
    · refine lv_iconst (v := 1) hx hb dX8_isDigit_12 ci_1 ?_
      refine lv_goto (tgt := 17) hx hb dX8_isDigit_13 (by decide) ?_
      exact Jn1 1 _ _ _ (by exact Eq.symm (Eq.trans (if_neg c6) (Eq.trans (if_neg c7) (rfl)))) (Or.inr rfl) hP hD hS (lv_sub hl [0] rfl)

def f_X8_partOf_j1 (st : Int32) (wh : Int32) : (Int32) :=
  if wh = 0 then
    (st / 25)
  else
    if wh = 1 then
      ((st / 5) - (st / 5) / 5 * 5)
    else
      (st - st / 5 * 5)
def f_X8_partOf (st : Int32) (wh : Int32) : Int32 :=
  let v5 := f_X8_partOf_j1 st wh
  v5
abbrev q_X8_partOf (D : va_G) (k : KK) (st : Int32) (wh : Int32) (A : Nat → Prop) : Array Value → State → Outcome → State → Prop := va_Qi (fun (r_ : Int32) (u : Int32) => r_ = u ∧ u = f_X8_partOf st wh) (bx D (fun u => []) A) A
abbrev rm_X8_partOf : Room := { frames := 1, cells := 0, slots := 0, locals := 40 }
theorem xo_X8_partOf : xok yX8_partOf 2 := by unfold xok; decide +kernel
set_option maxHeartbeats 8000000 in
theorem m_X8_partOf (l : Launch) (D : va_G) (k : KK) (sz : Nat) (st : Int32) (wh : Int32)  : Met l yX8_partOf (ws_ yX8_partOf cX8_partOf 2 (some .int)) rm_X8_partOf (pcx D k [.int st, .int wh] sz [] (fun _ => True)) (q_X8_partOf D k st wh (va_A [] sz)) 0 0 (va_A [] sz) := by
  refine Met.start (Qc := q_X8_partOf D k st wh) (by decide) (Nat.le_of_ble_eq_true rfl) ?_
  intro p e s m below meth c A hx hb hr hlocks hml hown hin hts hg hP hD hA hAn hS hY hsz ls hl
  have hown : s.vm.findClass RX8 = some m.cls := hown
  have hl : lv_has ls 2 [(0, .int st), (1, .int wh)] := hl
  refine lv_iload_n hx hb dX8_partOf_0 rfl (lv_at hl 1 rfl) ?_
  have Jn1 : ∀ (v5 : (Int32)) (H : Heap) (locs : List Loc) (ls : Array Slot), v5 = f_X8_partOf_j1 st wh → va_P D vwCl [] H → va_D A [] → va_S A s.heap H locs → lv_has ls 2 [(0, .int st), (1, .int wh)] → W p l e rm_X8_partOf s m ([.int st, .int wh] : List Value).toArray below meth c H locs 0 0 (MQ below (q_X8_partOf D k st wh A) ([.int st, .int wh] : List Value).toArray s 0 0 A) (F0 m 27 ls [.int v5]) := by
    intro v5 H locs ls ev5 hP hD hS hl
    exact xret_i hx hb hr hlocks (Nat.le_of_ble_eq_true rfl) (Nat.le_of_ble_eq_true rfl) hS.2.2 dX8_partOf_27 (fun t ht => ⟨⟨v5, v5, rfl, ⟨rfl, (by subst ev5; exact rfl)⟩, by rw [ht]; exact hP, hD⟩, hS.F ht⟩)
  refine lv_if_ne (tgt := 11) hx hb dX8_partOf_1 (by decide) (fun c6 => ?_) (fun c6 => ?_)
  · refine lv_iload_n hx hb dX8_partOf_11 rfl (lv_at hl 1 rfl) ?_
    refine lv_iconst (v := 1) hx hb dX8_partOf_12 ci_1 ?_
    refine lv_icmp_ne (tgt := 24) hx hb dX8_partOf_13 (by decide) (fun c7 => ?_) (fun c7 => ?_)
    · refine lv_iload_n hx hb dX8_partOf_24 rfl (lv_at hl 0 rfl) ?_
      refine lv_iconst (v := 5) hx hb dX8_partOf_25 ci_5 ?_
      refine lv_irem hx hb dX8_partOf_26 (by decide) ?_
      exact Jn1 (st - st / 5 * 5) _ _ _ (by exact Eq.symm (Eq.trans (if_neg c6) (Eq.trans (if_neg c7) (rfl)))) hP hD hS (lv_sub hl [0, 1] rfl)
    · refine lv_iload_n hx hb dX8_partOf_16 rfl (lv_at hl 0 rfl) ?_
      refine lv_iconst (v := 5) hx hb dX8_partOf_17 ci_5 ?_
      refine lv_idiv hx hb dX8_partOf_18 (by decide) ?_
      refine lv_iconst (v := 5) hx hb dX8_partOf_19 ci_5 ?_
      refine lv_irem hx hb dX8_partOf_20 (by decide) ?_
      refine lv_goto (tgt := 27) hx hb dX8_partOf_21 (by decide) ?_
      exact Jn1 ((st / 5) - (st / 5) / 5 * 5) _ _ _ (by exact Eq.symm (Eq.trans (if_neg c6) (Eq.trans (if_pos c7) (rfl)))) hP hD hS (lv_sub hl [0, 1] rfl)
  · refine lv_iload_n hx hb dX8_partOf_4 rfl (lv_at hl 0 rfl) ?_
    refine lv_bipush (v := 25) hx hb dX8_partOf_5 cb_25 ?_
    refine lv_idiv hx hb dX8_partOf_7 (by decide) ?_
    refine lv_goto (tgt := 27) hx hb dX8_partOf_8 (by decide) ?_
    exact Jn1 (st / 25) _ _ _ (by exact Eq.symm (Eq.trans (if_pos c6) (rfl))) hP hD hS (lv_sub hl [0, 1] rfl)

def f_X8_isStart_j1 (li : Int32) (fi : Int32) (u1 : Int32) : (Int32) :=
  if u1 = 0 then
    0
  else
    let u14 := f_X8_in li 0 4
    if u14 = 0 then
      0
    else
      let u16 := f_X8_in fi 0 4
      if u16 = 0 then
        0
      else
        1
def f_X8_isStart (te : Int32) (li : Int32) (fi : Int32) : Int32 :=
  let u1 := f_X8_in te 0 3
  let v12 := f_X8_isStart_j1 li fi u1
  v12
abbrev q_X8_isStart (D : va_G) (k : KK) (te : Int32) (li : Int32) (fi : Int32) (A : Nat → Prop) : Array Value → State → Outcome → State → Prop := va_Qi (fun (r_ : Int32) (u : Int32) => r_ = u ∧ u = f_X8_isStart te li fi ∧ (r_ = 0 ∨ r_ = 1)) (bx D (fun u => []) A) A
abbrev rm_X8_isStart : Room := { frames := 2, cells := 0, slots := 0, locals := 80 }
theorem xo_X8_isStart : xok yX8_isStart 3 := by unfold xok; decide +kernel
set_option maxHeartbeats 8000000 in
theorem m_X8_isStart (l : Launch) (D : va_G) (k : KK) (sz : Nat) (te : Int32) (li : Int32) (fi : Int32)  : Met l yX8_isStart (ws_ yX8_isStart cX8_isStart 3 (some .boolean)) rm_X8_isStart (pcx D k [.int te, .int li, .int fi] sz [] (fun _ => True)) (q_X8_isStart D k te li fi (va_A [] sz)) 0 0 (va_A [] sz) := by
  refine Met.start (Qc := q_X8_isStart D k te li fi) (by decide) (Nat.le_of_ble_eq_true rfl) ?_
  intro p e s m below meth c A hx hb hr hlocks hml hown hin hts hg hP hD hA hAn hS hY hsz ls hl
  have hown : s.vm.findClass RX8 = some m.cls := hown
  have hl : lv_has ls 3 [(0, .int te), (1, .int li), (2, .int fi)] := hl
  refine lv_iload_n hx hb dX8_isStart_0 rfl (lv_at hl 0 rfl) ?_
  refine lv_iconst (v := 0) hx hb dX8_isStart_1 ci_0 ?_
  refine lv_iconst (v := 3) hx hb dX8_isStart_2 ci_3 ?_
  refine xc_i (wc := []) (wr := []) hP hD hS hA [] [] rfl rfl rfl (by decide) (xrS ⟨hx, hb, hml, hown, hts⟩ hg (m_X8_in l D k _ te 0 3) hP hD [] rfl rfl trivial q1426 q1427 q93 q1428 xo_X8_in ⟨rfl, rfl⟩ ⟨Nat.le_of_ble_eq_true rfl, Nat.le_of_ble_eq_true rfl⟩ hl.1 (Nat.le_of_ble_eq_true rfl) dX8_isStart_3 ⟨Nat.le_of_ble_eq_true rfl, Nat.le_of_ble_eq_true rfl⟩ rfl) (fun u1 r_ H locs hw hP hD hS hk => ?_)
  obtain ⟨rfl, eu1, bu1⟩ := hw
  replace hP : va_P D vwCl [] H := hP.sub [] rfl
  replace hD : va_D A [] := hD.sub [] (by decide) rfl
  have Jn1 : ∀ (v12 : (Int32)) (H : Heap) (locs : List Loc) (ls : Array Slot), v12 = f_X8_isStart_j1 li fi u1 → (v12 = 0 ∨ v12 = 1) → va_P D vwCl [] H → va_D A [] → va_S A s.heap H locs → lv_has ls 3 [(0, .int te), (1, .int li), (2, .int fi)] → W p l e rm_X8_isStart s m ([.int te, .int li, .int fi] : List Value).toArray below meth c H locs 0 0 (MQ below (q_X8_isStart D k te li fi A) ([.int te, .int li, .int fi] : List Value).toArray s 0 0 A) (F0 m 32 ls [.int v12]) := by
    intro v12 H locs ls ev12 bv12_0 hP hD hS hl
    exact xret_z hx hb hr hlocks (Nat.le_of_ble_eq_true rfl) (Nat.le_of_ble_eq_true rfl) hS.2.2 dX8_isStart_32 bv12_0 (fun t ht => ⟨⟨v12, v12, rfl, ⟨rfl, (by subst ev12; subst eu1; exact rfl), bv12_0⟩, by rw [ht]; exact hP, hD⟩, hS.F ht⟩)
  refine lv_if_eq (tgt := 31) hx hb dX8_isStart_6 (by decide) (fun c13 => ?_) (fun c13 => ?_)
  · refine lv_iconst (v := 0) hx hb dX8_isStart_31 ci_0 ?_
    exact Jn1 0 _ _ _ (by exact Eq.symm (Eq.trans (if_pos c13) (rfl))) (Or.inl rfl) hP hD hS (lv_sub hl [0, 1, 2] rfl)
  · refine lv_iload_n hx hb dX8_isStart_9 rfl (lv_at hl 1 rfl) ?_
    refine lv_iconst (v := 0) hx hb dX8_isStart_10 ci_0 ?_
    refine lv_iconst (v := 4) hx hb dX8_isStart_11 ci_4 ?_
    refine xc_i (wc := []) (wr := []) hP hD hS hA [] [] rfl rfl rfl (by decide) (xrS ⟨hx, hb, hml, hown, hts⟩ hg (m_X8_in l D k _ li 0 4) hP hD [] rfl rfl trivial q1426 q1427 q93 q1428 xo_X8_in ⟨rfl, rfl⟩ ⟨Nat.le_of_ble_eq_true rfl, Nat.le_of_ble_eq_true rfl⟩ hl.1 (Nat.le_of_ble_eq_true rfl) dX8_isStart_12 ⟨Nat.le_of_ble_eq_true rfl, Nat.le_of_ble_eq_true rfl⟩ rfl) (fun u14 r_ H locs hw hP hD hS hk => ?_)
    obtain ⟨rfl, eu14, bu14⟩ := hw
    replace hP : va_P D vwCl [] H := hP.sub [] rfl
    replace hD : va_D A [] := hD.sub [] (by decide) rfl
    refine lv_if_eq (tgt := 31) hx hb dX8_isStart_15 (by decide) (fun c15 => ?_) (fun c15 => ?_)
    · refine lv_iconst (v := 0) hx hb dX8_isStart_31 ci_0 ?_
      exact Jn1 0 _ _ _ (by subst eu14; exact Eq.symm (Eq.trans (if_neg c13) (Eq.trans (if_pos c15) (rfl)))) (Or.inl rfl) hP hD hS (lv_sub hl [0, 1, 2] rfl)
    · refine lv_iload_n hx hb dX8_isStart_18 rfl (lv_at hl 2 rfl) ?_
      refine lv_iconst (v := 0) hx hb dX8_isStart_19 ci_0 ?_
      refine lv_iconst (v := 4) hx hb dX8_isStart_20 ci_4 ?_
      refine xc_i (wc := []) (wr := []) hP hD hS hA [] [] rfl rfl rfl (by decide) (xrS ⟨hx, hb, hml, hown, hts⟩ hg (m_X8_in l D k _ fi 0 4) hP hD [] rfl rfl trivial q1426 q1427 q93 q1428 xo_X8_in ⟨rfl, rfl⟩ ⟨Nat.le_of_ble_eq_true rfl, Nat.le_of_ble_eq_true rfl⟩ hl.1 (Nat.le_of_ble_eq_true rfl) dX8_isStart_21 ⟨Nat.le_of_ble_eq_true rfl, Nat.le_of_ble_eq_true rfl⟩ rfl) (fun u16 r_ H locs hw hP hD hS hk => ?_)
      obtain ⟨rfl, eu16, bu16⟩ := hw
      replace hP : va_P D vwCl [] H := hP.sub [] rfl
      replace hD : va_D A [] := hD.sub [] (by decide) rfl
      refine lv_if_eq (tgt := 31) hx hb dX8_isStart_24 (by decide) (fun c17 => ?_) (fun c17 => ?_)
      · refine lv_iconst (v := 0) hx hb dX8_isStart_31 ci_0 ?_
        exact Jn1 0 _ _ _ (by subst eu16; subst eu14; exact Eq.symm (Eq.trans (if_neg c13) (Eq.trans (if_neg c15) (Eq.trans (if_pos c17) (rfl))))) (Or.inl rfl) hP hD hS (lv_sub hl [0, 1, 2] rfl)
      · refine lv_iconst (v := 1) hx hb dX8_isStart_27 ci_1 ?_
        refine lv_goto (tgt := 32) hx hb dX8_isStart_28 (by decide) ?_
        exact Jn1 1 _ _ _ (by subst eu16; subst eu14; exact Eq.symm (Eq.trans (if_neg c13) (Eq.trans (if_neg c15) (Eq.trans (if_neg c17) (rfl))))) (Or.inr rfl) hP hD hS (lv_sub hl [0, 1, 2] rfl)

def f_X8_isOre_j1 (MI : Nat → Int32) (x : Int32) : (Int32) :=
  if x < 0 then
    0
  else
    if (MI 9) ≤ x then
      0
    else
      1
def f_X8_isOre (MI : Nat → Int32) (x : Int32) : Int32 :=
  let v5 := f_X8_isOre_j1 MI x
  v5
abbrev q_X8_isOre (D : va_G) (k : KK) (o : Nat) (r : Nat → Nat) (fr : Value) (I : Nat → Int32) (L : Nat → Int64) (ma : Nat) (mr : Nat → Nat) (MI : Nat → Int32) (x : Int32) (A : Nat → Prop) : Array Value → State → Outcome → State → Prop := va_Qi (fun (r_ : Int32) (u : Int32) => r_ = u ∧ u = f_X8_isOre MI x ∧ (r_ = 0 ∨ r_ = 1)) (bx D (fun u => [(o, eMM r (.ref ma) fr I L), (ma, eMI mr MI)]) A) A
abbrev rm_X8_isOre : Room := { frames := 1, cells := 0, slots := 0, locals := 40 }
theorem xo_X8_isOre : xok yX8_isOre 1 := by unfold xok; decide +kernel
set_option maxHeartbeats 8000000 in
theorem m_X8_isOre (l : Launch) (D : va_G) (k : KK) (sz : Nat) (o : Nat) (r : Nat → Nat) (fr : Value) (I : Nat → Int32) (L : Nat → Int64) (ma : Nat) (mr : Nat → Nat) (MI : Nat → Int32) (x : Int32)  : Met l yX8_isOre (ws_ yX8_isOre cX8_isOre 2 (some .boolean)) rm_X8_isOre (pcx D k [.ref o, .int x] sz [(o, eMM r (.ref ma) fr I L), (ma, eMI mr MI)] (fun _ => True)) (q_X8_isOre D k o r fr I L ma mr MI x (va_A [(o, eMM r (.ref ma) fr I L), (ma, eMI mr MI)] sz)) 0 0 (va_A [(o, eMM r (.ref ma) fr I L), (ma, eMI mr MI)] sz) := by
  refine Met.start (Qc := q_X8_isOre D k o r fr I L ma mr MI x) (by decide) (Nat.le_of_ble_eq_true rfl) ?_
  intro p e s m below meth c A hx hb hr hlocks hml hown hin hts hg hP hD hA hAn hS hY hsz ls hl
  have hown : s.vm.findClass RX8 = some m.cls := hown
  have hl : lv_has ls 2 [(0, .ref o), (1, .int x)] := hl
  refine lv_aload_n hx hb dX8_isOre_0 rfl (lv_at hl 0 rfl) ?_
  refine va_get (D := D) (ci := 10) (v := .ref ma) (C := RX8) (T := TX8) (N := 37) hx hb hts in_X8 hown hg.1 hP 0 rfl rfl 3 (Nat.le_of_ble_eq_true rfl) (hts _ q1144) (fun _ h9 => h9) rfl dX8_isOre_1 ?_
  refine lv_ifnull hx hb dX8_isOre_4 ?_
  refine lv_iload_n hx hb dX8_isOre_7 rfl (lv_at hl 1 rfl) ?_
  have Jn1 : ∀ (v5 : (Int32)) (H : Heap) (locs : List Loc) (ls : Array Slot), v5 = f_X8_isOre_j1 MI x → (v5 = 0 ∨ v5 = 1) → va_P D vwCl [(o, eMM r (.ref ma) fr I L), (ma, eMI mr MI)] H → va_D A [(o, eMM r (.ref ma) fr I L), (ma, eMI mr MI)] → va_S A s.heap H locs → lv_has ls 2 [(0, .ref o), (1, .int x)] → W p l e rm_X8_isOre s m ([.ref o, .int x] : List Value).toArray below meth c H locs 0 0 (MQ below (q_X8_isOre D k o r fr I L ma mr MI x A) ([.ref o, .int x] : List Value).toArray s 0 0 A) (F0 m 27 ls [.int v5]) := by
    intro v5 H locs ls ev5 bv5_0 hP hD hS hl
    exact xret_z hx hb hr hlocks (Nat.le_of_ble_eq_true rfl) (Nat.le_of_ble_eq_true rfl) hS.2.2 dX8_isOre_27 bv5_0 (fun t ht => ⟨⟨v5, v5, rfl, ⟨rfl, (by subst ev5; exact rfl), bv5_0⟩, by rw [ht]; exact hP, hD⟩, hS.F ht⟩)
  refine lv_if_lt (tgt := 26) hx hb dX8_isOre_8 (by decide) (fun c6 => ?_) (fun c6 => ?_)
  · refine lv_iconst (v := 0) hx hb dX8_isOre_26 ci_0 ?_
    exact Jn1 0 _ _ _ (by exact Eq.symm (Eq.trans (if_pos c6) (rfl))) (Or.inl rfl) hP hD hS (lv_sub hl [0, 1] rfl)
  · refine lv_iload_n hx hb dX8_isOre_11 rfl (lv_at hl 1 rfl) ?_
    refine lv_aload_n hx hb dX8_isOre_12 rfl (lv_at hl 0 rfl) ?_
    refine va_get (D := D) (ci := 10) (v := .ref ma) (C := RX8) (T := TX8) (N := 37) hx hb hts in_X8 hown hg.1 hP 0 rfl rfl 3 (Nat.le_of_ble_eq_true rfl) (hts _ q1144) (fun _ h9 => h9) rfl dX8_isOre_13 ?_
    refine va_getN (D := D) (ci := 11) (v := .int (MI 9)) (C := RX13) (T := TX13) (N := 18) hx hb hts in_X13 hown hg.1 hP 1 rfl rfl 9 (Nat.le_of_ble_eq_true rfl) (nwF_194 hg) (fun _ h9 => h9) rfl dX8_isOre_16 ?_
    refine lv_icmp_ge (tgt := 26) hx hb dX8_isOre_19 (by decide) (fun c7 => ?_) (fun c7 => ?_)
    · refine lv_iconst (v := 0) hx hb dX8_isOre_26 ci_0 ?_
      exact Jn1 0 _ _ _ (by exact Eq.symm (Eq.trans (if_neg c6) (Eq.trans (if_pos c7) (rfl)))) (Or.inl rfl) hP hD hS (lv_sub hl [0, 1] rfl)
    · refine lv_iconst (v := 1) hx hb dX8_isOre_22 ci_1 ?_
      refine lv_goto (tgt := 27) hx hb dX8_isOre_23 (by decide) ?_
      exact Jn1 1 _ _ _ (by exact Eq.symm (Eq.trans (if_neg c6) (Eq.trans (if_neg c7) (rfl)))) (Or.inr rfl) hP hD hS (lv_sub hl [0, 1] rfl)

def f_X8_isOreN  : Int32 :=
  0
abbrev q_X8_isOreN (D : va_G) (k : KK) (o : Nat) (r : Nat → Nat) (fr : Value) (I : Nat → Int32) (L : Nat → Int64) (x : Int32) (A : Nat → Prop) : Array Value → State → Outcome → State → Prop := va_Qi (fun (r_ : Int32) (u : Int32) => r_ = u ∧ u = f_X8_isOreN ∧ (r_ = 0 ∨ r_ = 1)) (bx D (fun u => [(o, eMM r .null fr I L)]) A) A
abbrev rm_X8_isOreN : Room := { frames := 1, cells := 0, slots := 0, locals := 40 }
set_option maxHeartbeats 8000000 in
theorem m_X8_isOreN (l : Launch) (D : va_G) (k : KK) (sz : Nat) (o : Nat) (r : Nat → Nat) (fr : Value) (I : Nat → Int32) (L : Nat → Int64) (x : Int32)  : Met l yX8_isOre (ws_ yX8_isOre cX8_isOre 2 (some .boolean)) rm_X8_isOreN (pcx D k [.ref o, .int x] sz [(o, eMM r .null fr I L)] (fun _ => True)) (q_X8_isOreN D k o r fr I L x (va_A [(o, eMM r .null fr I L)] sz)) 0 0 (va_A [(o, eMM r .null fr I L)] sz) := by
  refine Met.start (Qc := q_X8_isOreN D k o r fr I L x) (by decide) (Nat.le_of_ble_eq_true rfl) ?_
  intro p e s m below meth c A hx hb hr hlocks hml hown hin hts hg hP hD hA hAn hS hY hsz ls hl
  have hown : s.vm.findClass RX8 = some m.cls := hown
  have hl : lv_has ls 2 [(0, .ref o), (1, .int x)] := hl
  refine lv_aload_n hx hb dX8_isOre_0 rfl (lv_at hl 0 rfl) ?_
  refine va_get (D := D) (ci := 10) (v := .null) (C := RX8) (T := TX8) (N := 37) hx hb hts in_X8 hown hg.1 hP 0 rfl rfl 3 (Nat.le_of_ble_eq_true rfl) (hts _ q1144) (fun _ h9 => h9) rfl dX8_isOre_1 ?_
  refine lv_ifnullN (tgt := 26) hx hb dX8_isOre_4 (by decide) ?_
  refine lv_iconst (v := 0) hx hb dX8_isOre_26 ci_0 ?_
  exact xret_z hx hb hr hlocks (Nat.le_of_ble_eq_true rfl) (Nat.le_of_ble_eq_true rfl) hS.2.2 dX8_isOre_27 (Or.inl rfl) (fun t ht => ⟨⟨0, 0, rfl, ⟨rfl, rfl, (Or.inl rfl)⟩, by rw [ht]; exact hP, hD⟩, hS.F ht⟩)

def f_X8_isSize_j1 (MI : Nat → Int32) (x : Int32) : (Int32) :=
  if x < 0 then
    0
  else
    if (MI 8) ≤ x then
      0
    else
      1
def f_X8_isSize (MI : Nat → Int32) (x : Int32) : Int32 :=
  let v5 := f_X8_isSize_j1 MI x
  v5
abbrev q_X8_isSize (D : va_G) (k : KK) (o : Nat) (r : Nat → Nat) (fr : Value) (I : Nat → Int32) (L : Nat → Int64) (ma : Nat) (mr : Nat → Nat) (MI : Nat → Int32) (x : Int32) (A : Nat → Prop) : Array Value → State → Outcome → State → Prop := va_Qi (fun (r_ : Int32) (u : Int32) => r_ = u ∧ u = f_X8_isSize MI x ∧ (r_ = 0 ∨ r_ = 1)) (bx D (fun u => [(o, eMM r (.ref ma) fr I L), (ma, eMI mr MI)]) A) A
abbrev rm_X8_isSize : Room := { frames := 1, cells := 0, slots := 0, locals := 40 }
theorem xo_X8_isSize : xok yX8_isSize 1 := by unfold xok; decide +kernel
set_option maxHeartbeats 8000000 in
theorem m_X8_isSize (l : Launch) (D : va_G) (k : KK) (sz : Nat) (o : Nat) (r : Nat → Nat) (fr : Value) (I : Nat → Int32) (L : Nat → Int64) (ma : Nat) (mr : Nat → Nat) (MI : Nat → Int32) (x : Int32)  : Met l yX8_isSize (ws_ yX8_isSize cX8_isSize 2 (some .boolean)) rm_X8_isSize (pcx D k [.ref o, .int x] sz [(o, eMM r (.ref ma) fr I L), (ma, eMI mr MI)] (fun _ => True)) (q_X8_isSize D k o r fr I L ma mr MI x (va_A [(o, eMM r (.ref ma) fr I L), (ma, eMI mr MI)] sz)) 0 0 (va_A [(o, eMM r (.ref ma) fr I L), (ma, eMI mr MI)] sz) := by
  refine Met.start (Qc := q_X8_isSize D k o r fr I L ma mr MI x) (by decide) (Nat.le_of_ble_eq_true rfl) ?_
  intro p e s m below meth c A hx hb hr hlocks hml hown hin hts hg hP hD hA hAn hS hY hsz ls hl
  have hown : s.vm.findClass RX8 = some m.cls := hown
  have hl : lv_has ls 2 [(0, .ref o), (1, .int x)] := hl
  refine lv_aload_n hx hb dX8_isSize_0 rfl (lv_at hl 0 rfl) ?_
  refine va_get (D := D) (ci := 10) (v := .ref ma) (C := RX8) (T := TX8) (N := 37) hx hb hts in_X8 hown hg.1 hP 0 rfl rfl 3 (Nat.le_of_ble_eq_true rfl) (hts _ q1144) (fun _ h9 => h9) rfl dX8_isSize_1 ?_
  refine lv_ifnull hx hb dX8_isSize_4 ?_
  refine lv_iload_n hx hb dX8_isSize_7 rfl (lv_at hl 1 rfl) ?_
  have Jn1 : ∀ (v5 : (Int32)) (H : Heap) (locs : List Loc) (ls : Array Slot), v5 = f_X8_isSize_j1 MI x → (v5 = 0 ∨ v5 = 1) → va_P D vwCl [(o, eMM r (.ref ma) fr I L), (ma, eMI mr MI)] H → va_D A [(o, eMM r (.ref ma) fr I L), (ma, eMI mr MI)] → va_S A s.heap H locs → lv_has ls 2 [(0, .ref o), (1, .int x)] → W p l e rm_X8_isSize s m ([.ref o, .int x] : List Value).toArray below meth c H locs 0 0 (MQ below (q_X8_isSize D k o r fr I L ma mr MI x A) ([.ref o, .int x] : List Value).toArray s 0 0 A) (F0 m 27 ls [.int v5]) := by
    intro v5 H locs ls ev5 bv5_0 hP hD hS hl
    exact xret_z hx hb hr hlocks (Nat.le_of_ble_eq_true rfl) (Nat.le_of_ble_eq_true rfl) hS.2.2 dX8_isSize_27 bv5_0 (fun t ht => ⟨⟨v5, v5, rfl, ⟨rfl, (by subst ev5; exact rfl), bv5_0⟩, by rw [ht]; exact hP, hD⟩, hS.F ht⟩)
  refine lv_if_lt (tgt := 26) hx hb dX8_isSize_8 (by decide) (fun c6 => ?_) (fun c6 => ?_)
  · refine lv_iconst (v := 0) hx hb dX8_isSize_26 ci_0 ?_
    exact Jn1 0 _ _ _ (by exact Eq.symm (Eq.trans (if_pos c6) (rfl))) (Or.inl rfl) hP hD hS (lv_sub hl [0, 1] rfl)
  · refine lv_iload_n hx hb dX8_isSize_11 rfl (lv_at hl 1 rfl) ?_
    refine lv_aload_n hx hb dX8_isSize_12 rfl (lv_at hl 0 rfl) ?_
    refine va_get (D := D) (ci := 10) (v := .ref ma) (C := RX8) (T := TX8) (N := 37) hx hb hts in_X8 hown hg.1 hP 0 rfl rfl 3 (Nat.le_of_ble_eq_true rfl) (hts _ q1144) (fun _ h9 => h9) rfl dX8_isSize_13 ?_
    refine va_getN (D := D) (ci := 11) (v := .int (MI 8)) (C := RX13) (T := TX13) (N := 18) hx hb hts in_X13 hown hg.1 hP 1 rfl rfl 8 (Nat.le_of_ble_eq_true rfl) (nwF_191 hg) (fun _ h9 => h9) rfl dX8_isSize_16 ?_
    refine lv_icmp_ge (tgt := 26) hx hb dX8_isSize_19 (by decide) (fun c7 => ?_) (fun c7 => ?_)
    · refine lv_iconst (v := 0) hx hb dX8_isSize_26 ci_0 ?_
      exact Jn1 0 _ _ _ (by exact Eq.symm (Eq.trans (if_neg c6) (Eq.trans (if_pos c7) (rfl)))) (Or.inl rfl) hP hD hS (lv_sub hl [0, 1] rfl)
    · refine lv_iconst (v := 1) hx hb dX8_isSize_22 ci_1 ?_
      refine lv_goto (tgt := 27) hx hb dX8_isSize_23 (by decide) ?_
      exact Jn1 1 _ _ _ (by exact Eq.symm (Eq.trans (if_neg c6) (Eq.trans (if_neg c7) (rfl)))) (Or.inr rfl) hP hD hS (lv_sub hl [0, 1] rfl)

def f_X8_isSizeN  : Int32 :=
  0
abbrev q_X8_isSizeN (D : va_G) (k : KK) (o : Nat) (r : Nat → Nat) (fr : Value) (I : Nat → Int32) (L : Nat → Int64) (x : Int32) (A : Nat → Prop) : Array Value → State → Outcome → State → Prop := va_Qi (fun (r_ : Int32) (u : Int32) => r_ = u ∧ u = f_X8_isSizeN ∧ (r_ = 0 ∨ r_ = 1)) (bx D (fun u => [(o, eMM r .null fr I L)]) A) A
abbrev rm_X8_isSizeN : Room := { frames := 1, cells := 0, slots := 0, locals := 40 }
set_option maxHeartbeats 8000000 in
theorem m_X8_isSizeN (l : Launch) (D : va_G) (k : KK) (sz : Nat) (o : Nat) (r : Nat → Nat) (fr : Value) (I : Nat → Int32) (L : Nat → Int64) (x : Int32)  : Met l yX8_isSize (ws_ yX8_isSize cX8_isSize 2 (some .boolean)) rm_X8_isSizeN (pcx D k [.ref o, .int x] sz [(o, eMM r .null fr I L)] (fun _ => True)) (q_X8_isSizeN D k o r fr I L x (va_A [(o, eMM r .null fr I L)] sz)) 0 0 (va_A [(o, eMM r .null fr I L)] sz) := by
  refine Met.start (Qc := q_X8_isSizeN D k o r fr I L x) (by decide) (Nat.le_of_ble_eq_true rfl) ?_
  intro p e s m below meth c A hx hb hr hlocks hml hown hin hts hg hP hD hA hAn hS hY hsz ls hl
  have hown : s.vm.findClass RX8 = some m.cls := hown
  have hl : lv_has ls 2 [(0, .ref o), (1, .int x)] := hl
  refine lv_aload_n hx hb dX8_isSize_0 rfl (lv_at hl 0 rfl) ?_
  refine va_get (D := D) (ci := 10) (v := .null) (C := RX8) (T := TX8) (N := 37) hx hb hts in_X8 hown hg.1 hP 0 rfl rfl 3 (Nat.le_of_ble_eq_true rfl) (hts _ q1144) (fun _ h9 => h9) rfl dX8_isSize_1 ?_
  refine lv_ifnullN (tgt := 26) hx hb dX8_isSize_4 (by decide) ?_
  refine lv_iconst (v := 0) hx hb dX8_isSize_26 ci_0 ?_
  exact xret_z hx hb hr hlocks (Nat.le_of_ble_eq_true rfl) (Nat.le_of_ble_eq_true rfl) hS.2.2 dX8_isSize_27 (Or.inl rfl) (fun t ht => ⟨⟨0, 0, rfl, ⟨rfl, rfl, (Or.inl rfl)⟩, by rw [ht]; exact hP, hD⟩, hS.F ht⟩)

def f_X8_isWhat_j1 (MI : Nat → Int32) (y : Int32) (u1 : Int32) : (Int32) :=
  if u1 = 0 then
    0
  else
    let u10 := f_X8_in y 0 ((MI 8) + 1)
    if u10 = 0 then
      0
    else
      1
def f_X8_isWhat (MI : Nat → Int32) (x : Int32) (y : Int32) : Int32 :=
  let u1 := f_X8_in x 0 11
  let v8 := f_X8_isWhat_j1 MI y u1
  v8
abbrev q_X8_isWhat (D : va_G) (k : KK) (o : Nat) (r : Nat → Nat) (fr : Value) (I : Nat → Int32) (L : Nat → Int64) (ma : Nat) (mr : Nat → Nat) (MI : Nat → Int32) (x : Int32) (y : Int32) (A : Nat → Prop) : Array Value → State → Outcome → State → Prop := va_Qi (fun (r_ : Int32) (u : Int32) => r_ = u ∧ u = f_X8_isWhat MI x y ∧ (r_ = 0 ∨ r_ = 1)) (bx D (fun u => [(o, eMM r (.ref ma) fr I L), (ma, eMI mr MI)]) A) A
abbrev rm_X8_isWhat : Room := { frames := 2, cells := 0, slots := 0, locals := 80 }
theorem xo_X8_isWhat : xok yX8_isWhat 2 := by unfold xok; decide +kernel
set_option maxHeartbeats 8000000 in
theorem m_X8_isWhat (l : Launch) (D : va_G) (k : KK) (sz : Nat) (o : Nat) (r : Nat → Nat) (fr : Value) (I : Nat → Int32) (L : Nat → Int64) (ma : Nat) (mr : Nat → Nat) (MI : Nat → Int32) (x : Int32) (y : Int32)  : Met l yX8_isWhat (ws_ yX8_isWhat cX8_isWhat 3 (some .boolean)) rm_X8_isWhat (pcx D k [.ref o, .int x, .int y] sz [(o, eMM r (.ref ma) fr I L), (ma, eMI mr MI)] (fun _ => True)) (q_X8_isWhat D k o r fr I L ma mr MI x y (va_A [(o, eMM r (.ref ma) fr I L), (ma, eMI mr MI)] sz)) 0 0 (va_A [(o, eMM r (.ref ma) fr I L), (ma, eMI mr MI)] sz) := by
  refine Met.start (Qc := q_X8_isWhat D k o r fr I L ma mr MI x y) (by decide) (Nat.le_of_ble_eq_true rfl) ?_
  intro p e s m below meth c A hx hb hr hlocks hml hown hin hts hg hP hD hA hAn hS hY hsz ls hl
  have hown : s.vm.findClass RX8 = some m.cls := hown
  have hl : lv_has ls 3 [(0, .ref o), (1, .int x), (2, .int y)] := hl
  refine lv_aload_n hx hb dX8_isWhat_0 rfl (lv_at hl 0 rfl) ?_
  refine va_get (D := D) (ci := 10) (v := .ref ma) (C := RX8) (T := TX8) (N := 37) hx hb hts in_X8 hown hg.1 hP 0 rfl rfl 3 (Nat.le_of_ble_eq_true rfl) (hts _ q1144) (fun _ h9 => h9) rfl dX8_isWhat_1 ?_
  refine lv_ifnull hx hb dX8_isWhat_4 ?_
  refine lv_iload_n hx hb dX8_isWhat_7 rfl (lv_at hl 1 rfl) ?_
  refine lv_iconst (v := 0) hx hb dX8_isWhat_8 ci_0 ?_
  refine lv_bipush (v := 11) hx hb dX8_isWhat_9 cb_11 ?_
  refine xc_i (wc := []) (wr := [(o, eMM r (.ref ma) fr I L), (ma, eMI mr MI)]) hP hD hS hA [] [0, 1] rfl rfl rfl (by decide) (xrS ⟨hx, hb, hml, hown, hts⟩ hg (m_X8_in l D k _ x 0 11) hP hD [] rfl rfl trivial q1426 q1427 q93 q1428 xo_X8_in ⟨rfl, rfl⟩ ⟨Nat.le_of_ble_eq_true rfl, Nat.le_of_ble_eq_true rfl⟩ hl.1 (Nat.le_of_ble_eq_true rfl) dX8_isWhat_11 ⟨Nat.le_of_ble_eq_true rfl, Nat.le_of_ble_eq_true rfl⟩ rfl) (fun u1 r_ H locs hw hP hD hS hk => ?_)
  obtain ⟨rfl, eu1, bu1⟩ := hw
  replace hP : va_P D vwCl [(o, eMM r (.ref ma) fr I L), (ma, eMI mr MI)] H := hP.sub [0, 1] rfl
  replace hD : va_D A [(o, eMM r (.ref ma) fr I L), (ma, eMI mr MI)] := hD.sub [0, 1] (by decide) rfl
  have Jn1 : ∀ (v8 : (Int32)) (H : Heap) (locs : List Loc) (ls : Array Slot), v8 = f_X8_isWhat_j1 MI y u1 → (v8 = 0 ∨ v8 = 1) → va_P D vwCl [(o, eMM r (.ref ma) fr I L), (ma, eMI mr MI)] H → va_D A [(o, eMM r (.ref ma) fr I L), (ma, eMI mr MI)] → va_S A s.heap H locs → lv_has ls 3 [(0, .ref o), (1, .int x), (2, .int y)] → W p l e rm_X8_isWhat s m ([.ref o, .int x, .int y] : List Value).toArray below meth c H locs 0 0 (MQ below (q_X8_isWhat D k o r fr I L ma mr MI x y A) ([.ref o, .int x, .int y] : List Value).toArray s 0 0 A) (F0 m 39 ls [.int v8]) := by
    intro v8 H locs ls ev8 bv8_0 hP hD hS hl
    exact xret_z hx hb hr hlocks (Nat.le_of_ble_eq_true rfl) (Nat.le_of_ble_eq_true rfl) hS.2.2 dX8_isWhat_39 bv8_0 (fun t ht => ⟨⟨v8, v8, rfl, ⟨rfl, (by subst ev8; subst eu1; exact rfl), bv8_0⟩, by rw [ht]; exact hP, hD⟩, hS.F ht⟩)
  refine lv_if_eq (tgt := 38) hx hb dX8_isWhat_14 (by decide) (fun c9 => ?_) (fun c9 => ?_)
  · refine lv_iconst (v := 0) hx hb dX8_isWhat_38 ci_0 ?_
    exact Jn1 0 _ _ _ (by exact Eq.symm (Eq.trans (if_pos c9) (rfl))) (Or.inl rfl) hP hD hS (lv_sub hl [0, 1, 2] rfl)
  · refine lv_iload_n hx hb dX8_isWhat_17 rfl (lv_at hl 2 rfl) ?_
    refine lv_iconst (v := 0) hx hb dX8_isWhat_18 ci_0 ?_
    refine lv_aload_n hx hb dX8_isWhat_19 rfl (lv_at hl 0 rfl) ?_
    refine va_get (D := D) (ci := 10) (v := .ref ma) (C := RX8) (T := TX8) (N := 37) hx hb hts in_X8 hown hg.1 hP 0 rfl rfl 3 (Nat.le_of_ble_eq_true rfl) (hts _ q1144) (fun _ h9 => h9) rfl dX8_isWhat_20 ?_
    refine va_getN (D := D) (ci := 11) (v := .int (MI 8)) (C := RX13) (T := TX13) (N := 18) hx hb hts in_X13 hown hg.1 hP 1 rfl rfl 8 (Nat.le_of_ble_eq_true rfl) (nwF_191 hg) (fun _ h9 => h9) rfl dX8_isWhat_23 ?_
    refine lv_iconst (v := 1) hx hb dX8_isWhat_26 ci_1 ?_
    refine lv_iadd hx hb dX8_isWhat_27 ?_
    refine xc_i (wc := []) (wr := [(o, eMM r (.ref ma) fr I L), (ma, eMI mr MI)]) hP hD hS hA [] [0, 1] rfl rfl rfl (by decide) (xrS ⟨hx, hb, hml, hown, hts⟩ hg (m_X8_in l D k _ y 0 ((MI 8) + 1)) hP hD [] rfl rfl trivial q1426 q1427 q93 q1428 xo_X8_in ⟨rfl, rfl⟩ ⟨Nat.le_of_ble_eq_true rfl, Nat.le_of_ble_eq_true rfl⟩ hl.1 (Nat.le_of_ble_eq_true rfl) dX8_isWhat_28 ⟨Nat.le_of_ble_eq_true rfl, Nat.le_of_ble_eq_true rfl⟩ rfl) (fun u10 r_ H locs hw hP hD hS hk => ?_)
    obtain ⟨rfl, eu10, bu10⟩ := hw
    replace hP : va_P D vwCl [(o, eMM r (.ref ma) fr I L), (ma, eMI mr MI)] H := hP.sub [0, 1] rfl
    replace hD : va_D A [(o, eMM r (.ref ma) fr I L), (ma, eMI mr MI)] := hD.sub [0, 1] (by decide) rfl
    refine lv_if_eq (tgt := 38) hx hb dX8_isWhat_31 (by decide) (fun c11 => ?_) (fun c11 => ?_)
    · refine lv_iconst (v := 0) hx hb dX8_isWhat_38 ci_0 ?_
      exact Jn1 0 _ _ _ (by subst eu10; exact Eq.symm (Eq.trans (if_neg c9) (Eq.trans (if_pos c11) (rfl)))) (Or.inl rfl) hP hD hS (lv_sub hl [0, 1, 2] rfl)
    · refine lv_iconst (v := 1) hx hb dX8_isWhat_34 ci_1 ?_
      refine lv_goto (tgt := 39) hx hb dX8_isWhat_35 (by decide) ?_
      exact Jn1 1 _ _ _ (by subst eu10; exact Eq.symm (Eq.trans (if_neg c9) (Eq.trans (if_neg c11) (rfl)))) (Or.inr rfl) hP hD hS (lv_sub hl [0, 1, 2] rfl)

def f_X8_isWhatN  : Int32 :=
  0
abbrev q_X8_isWhatN (D : va_G) (k : KK) (o : Nat) (r : Nat → Nat) (fr : Value) (I : Nat → Int32) (L : Nat → Int64) (x : Int32) (y : Int32) (A : Nat → Prop) : Array Value → State → Outcome → State → Prop := va_Qi (fun (r_ : Int32) (u : Int32) => r_ = u ∧ u = f_X8_isWhatN ∧ (r_ = 0 ∨ r_ = 1)) (bx D (fun u => [(o, eMM r .null fr I L)]) A) A
abbrev rm_X8_isWhatN : Room := { frames := 2, cells := 0, slots := 0, locals := 80 }
set_option maxHeartbeats 8000000 in
theorem m_X8_isWhatN (l : Launch) (D : va_G) (k : KK) (sz : Nat) (o : Nat) (r : Nat → Nat) (fr : Value) (I : Nat → Int32) (L : Nat → Int64) (x : Int32) (y : Int32)  : Met l yX8_isWhat (ws_ yX8_isWhat cX8_isWhat 3 (some .boolean)) rm_X8_isWhatN (pcx D k [.ref o, .int x, .int y] sz [(o, eMM r .null fr I L)] (fun _ => True)) (q_X8_isWhatN D k o r fr I L x y (va_A [(o, eMM r .null fr I L)] sz)) 0 0 (va_A [(o, eMM r .null fr I L)] sz) := by
  refine Met.start (Qc := q_X8_isWhatN D k o r fr I L x y) (by decide) (Nat.le_of_ble_eq_true rfl) ?_
  intro p e s m below meth c A hx hb hr hlocks hml hown hin hts hg hP hD hA hAn hS hY hsz ls hl
  have hown : s.vm.findClass RX8 = some m.cls := hown
  have hl : lv_has ls 3 [(0, .ref o), (1, .int x), (2, .int y)] := hl
  refine lv_aload_n hx hb dX8_isWhat_0 rfl (lv_at hl 0 rfl) ?_
  refine va_get (D := D) (ci := 10) (v := .null) (C := RX8) (T := TX8) (N := 37) hx hb hts in_X8 hown hg.1 hP 0 rfl rfl 3 (Nat.le_of_ble_eq_true rfl) (hts _ q1144) (fun _ h9 => h9) rfl dX8_isWhat_1 ?_
  refine lv_ifnullN (tgt := 38) hx hb dX8_isWhat_4 (by decide) ?_
  refine lv_iconst (v := 0) hx hb dX8_isWhat_38 ci_0 ?_
  exact xret_z hx hb hr hlocks (Nat.le_of_ble_eq_true rfl) (Nat.le_of_ble_eq_true rfl) hS.2.2 dX8_isWhat_39 (Or.inl rfl) (fun t ht => ⟨⟨0, 0, rfl, ⟨rfl, rfl, (Or.inl rfl)⟩, by rw [ht]; exact hP, hD⟩, hS.F ht⟩)

def f_X8_set (MI : Nat → Int32) (sv : Nat → Int32) (ra : Int32) (wa : Int32) (oi : Int32) : Int32 × Int32 × Int32 × Int32 × (Nat → Int32) :=
  let u1 := f_X8_isOre MI oi
  if u1 = 0 then
    let u13 := f_X8_denied 1
    (u13.1, 0, u13.2.1, u13.2.2, sv)
  else
    let u3 := f_X8_in ra 0 3
    if u3 = 0 then
      let u5 := f_X8_denied 2
      (u5.1, 0, u5.2.1, u5.2.2, sv)
    else
      let u6 := f_X8_in wa 0 3
      if u6 = 0 then
        let u12 := f_X8_denied 2
        (u12.1, 0, u12.2.1, u12.2.2, sv)
      else
        let f8 := upd sv 34 ra
        let f9 := upd f8 35 wa
        let f10 := upd f9 36 oi
        let u11 := f_X8_granted
        (u11.1, 0, u11.2.1, u11.2.2, f10)
abbrev q_X8_set (D : va_G) (k : KK) (o : Nat) (r : Nat → Nat) (fr : Value) (I : Nat → Int32) (L : Nat → Int64) (ma : Nat) (mr : Nat → Nat) (MI : Nat → Int32) (sv : Nat → Int32) (ra : Int32) (wa : Int32) (oi : Int32) (A : Nat → Prop) : Array Value → State → Outcome → State → Prop := va_Qi (fun (r_ : Int32) (u : Int32 × Int32 × Int32 × Int32 × (Nat → Int32)) => r_ = u.1 ∧ u = f_X8_set MI sv ra wa oi ∧ (r_ = 0 ∨ r_ = 1)) (bx D (fun u => [(o, eMM r (.ref ma) fr (upd (upd (upd I 0 u.2.1) 1 u.2.2.1) 2 u.2.2.2.1) L), (ma, eMI mr MI), ((r 16), aI k 37 u.2.2.2.2)]) A) A
abbrev rm_X8_set : Room := { frames := 3, cells := 0, slots := 0, locals := 120 }
theorem xo_X8_set : xok yX8_set 3 := by unfold xok; decide +kernel
set_option maxHeartbeats 8000000 in
theorem m_X8_set (l : Launch) (D : va_G) (k : KK) (sz : Nat) (o : Nat) (r : Nat → Nat) (fr : Value) (I : Nat → Int32) (L : Nat → Int64) (ma : Nat) (mr : Nat → Nat) (MI : Nat → Int32) (sv : Nat → Int32) (ra : Int32) (wa : Int32) (oi : Int32)  : Met l yX8_set (ws_ yX8_set cX8_set 4 (some .boolean)) rm_X8_set (pcx D k [.ref o, .int ra, .int wa, .int oi] sz [(o, eMM r (.ref ma) fr I L), (ma, eMI mr MI), ((r 16), aI k 37 sv)] (fun _ => True)) (q_X8_set D k o r fr I L ma mr MI sv ra wa oi (va_A [(o, eMM r (.ref ma) fr I L), (ma, eMI mr MI), ((r 16), aI k 37 sv)] sz)) 0 0 (va_A [(o, eMM r (.ref ma) fr I L), (ma, eMI mr MI), ((r 16), aI k 37 sv)] sz) := by
  refine Met.start (Qc := q_X8_set D k o r fr I L ma mr MI sv ra wa oi) (by decide) (Nat.le_of_ble_eq_true rfl) ?_
  intro p e s m below meth c A hx hb hr hlocks hml hown hin hts hg hP hD hA hAn hS hY hsz ls hl
  have hown : s.vm.findClass RX8 = some m.cls := hown
  have hl : lv_has ls 4 [(0, .ref o), (1, .int ra), (2, .int wa), (3, .int oi)] := hl
  refine lv_aload_n hx hb dX8_set_0 rfl (lv_at hl 0 rfl) ?_
  refine lv_iconst (v := 0) hx hb dX8_set_1 ci_0 ?_
  refine va_put (D := D) (ci := 10) (v := .int 0) (C := RX8) (T := TX8) (N := 37) hx hb hts in_X8 tyX8 tyX8_ok nmX8 hown hg.1 hP hD hS 0 rfl rfl 0 (Nat.le_of_ble_eq_true rfl) (hts _ q1141) (fun _ h9 => h9) rfl ftX8_0 rfl rfl (Nat.le_of_ble_eq_true rfl) dX8_set_2 (fun H locs hP hD hS => ?_)
  replace hP : va_P D vwCl [(o, eMM r (.ref ma) fr (upd I 0 0) L), (ma, eMI mr MI), ((r 16), aI k 37 sv)] H := hP
  replace hD : va_D A [(o, eMM r (.ref ma) fr (upd I 0 0) L), (ma, eMI mr MI), ((r 16), aI k 37 sv)] := hD
  refine lv_aload_n hx hb dX8_set_5 rfl (lv_at hl 0 rfl) ?_
  refine lv_iload_n hx hb dX8_set_6 rfl (lv_at hl 3 rfl) ?_
  refine xc_i (wc := [(o, eMM r (.ref ma) fr (upd I 0 0) L), (ma, eMI mr MI)]) (wr := [((r 16), aI k 37 sv)]) hP hD hS hA [0, 1] [2] rfl rfl rfl (by decide) (xrV ⟨hx, hb, hml, hown, hts⟩ hg (m_X8_isOre l D k _ o r fr (upd I 0 0) L ma mr MI oi) hP hD [0, 1] rfl rfl trivial (ci := 10) (q0 := 0) rfl rfl rfl q1498 q1500 qs61 q93 q1501 xo_X8_isOre ⟨rfl, rfl⟩ ⟨Nat.le_of_ble_eq_true rfl, Nat.le_of_ble_eq_true rfl⟩ hl.1 (Nat.le_of_ble_eq_true rfl) dX8_set_7 ⟨Nat.le_of_ble_eq_true rfl, Nat.le_of_ble_eq_true rfl⟩ rfl) (fun u1 r_ H locs hw hP hD hS hk => ?_)
  obtain ⟨rfl, eu1, bu1⟩ := hw
  replace hP : va_P D vwCl [(o, eMM r (.ref ma) fr (upd I 0 0) L), (ma, eMI mr MI), ((r 16), aI k 37 sv)] H := hP.sub [1, 2, 0] rfl
  replace hD : va_D A [(o, eMM r (.ref ma) fr (upd I 0 0) L), (ma, eMI mr MI), ((r 16), aI k 37 sv)] := hD.sub [1, 2, 0] (by decide) rfl
  refine lv_if_ne (tgt := 19) hx hb dX8_set_10 (by decide) (fun c2 => ?_) (fun c2 => ?_)
  · refine lv_iload_n hx hb dX8_set_19 rfl (lv_at hl 1 rfl) ?_
    refine lv_iconst (v := 0) hx hb dX8_set_20 ci_0 ?_
    refine lv_iconst (v := 3) hx hb dX8_set_21 ci_3 ?_
    refine xc_i (wc := []) (wr := [(o, eMM r (.ref ma) fr (upd I 0 0) L), (ma, eMI mr MI), ((r 16), aI k 37 sv)]) hP hD hS hA [] [0, 1, 2] rfl rfl rfl (by decide) (xrS ⟨hx, hb, hml, hown, hts⟩ hg (m_X8_in l D k _ ra 0 3) hP hD [] rfl rfl trivial q1426 q1427 q93 q1428 xo_X8_in ⟨rfl, rfl⟩ ⟨Nat.le_of_ble_eq_true rfl, Nat.le_of_ble_eq_true rfl⟩ hl.1 (Nat.le_of_ble_eq_true rfl) dX8_set_22 ⟨Nat.le_of_ble_eq_true rfl, Nat.le_of_ble_eq_true rfl⟩ rfl) (fun u3 r_ H locs hw hP hD hS hk => ?_)
    obtain ⟨rfl, eu3, bu3⟩ := hw
    replace hP : va_P D vwCl [(o, eMM r (.ref ma) fr (upd I 0 0) L), (ma, eMI mr MI), ((r 16), aI k 37 sv)] H := hP.sub [0, 1, 2] rfl
    replace hD : va_D A [(o, eMM r (.ref ma) fr (upd I 0 0) L), (ma, eMI mr MI), ((r 16), aI k 37 sv)] := hD.sub [0, 1, 2] (by decide) rfl
    refine lv_if_eq (tgt := 37) hx hb dX8_set_25 (by decide) (fun c4 => ?_) (fun c4 => ?_)
    · refine lv_aload_n hx hb dX8_set_37 rfl (lv_at hl 0 rfl) ?_
      refine lv_iconst (v := 2) hx hb dX8_set_38 ci_2 ?_
      refine xc_i (wc := [(o, eMM r (.ref ma) fr (upd I 0 0) L)]) (wr := [(ma, eMI mr MI), ((r 16), aI k 37 sv)]) hP hD hS hA [0] [1, 2] rfl rfl rfl (by decide) (xrV ⟨hx, hb, hml, hown, hts⟩ hg (m_X8_denied l D k _ o r (.ref ma) fr (upd I 0 0) L 2) hP hD [0] rfl rfl trivial (ci := 10) (q0 := 0) rfl rfl rfl q1502 q1504 qs62 q93 q1505 xo_X8_denied ⟨rfl, rfl⟩ ⟨Nat.le_of_ble_eq_true rfl, Nat.le_of_ble_eq_true rfl⟩ hl.1 (Nat.le_of_ble_eq_true rfl) dX8_set_39 ⟨Nat.le_of_ble_eq_true rfl, Nat.le_of_ble_eq_true rfl⟩ rfl) (fun r_ u5 H locs hw hP hD hS hk => ?_)
      obtain ⟨rfl, eu5, bu5⟩ := hw
      replace hP : va_P D vwCl [(o, eMM r (.ref ma) fr (upd (upd (upd I 0 0) 1 u5.2.1) 2 u5.2.2) L), (ma, eMI mr MI), ((r 16), aI k 37 sv)] H := hP.sub [2, 0, 1] rfl
      replace hD : va_D A [(o, eMM r (.ref ma) fr (upd (upd (upd I 0 0) 1 u5.2.1) 2 u5.2.2) L), (ma, eMI mr MI), ((r 16), aI k 37 sv)] := hD.sub [2, 0, 1] (by decide) rfl
      exact xret_z hx hb hr hlocks (Nat.le_of_ble_eq_true rfl) (Nat.le_of_ble_eq_true rfl) hS.2.2 dX8_set_42 bu5 (fun t ht => ⟨⟨u5.1, (u5.1, 0, u5.2.1, u5.2.2, sv), rfl, ⟨rfl, (by subst eu5; subst eu3; subst eu1; exact Eq.symm (Eq.trans (if_neg c2) (Eq.trans (if_pos c4) (rfl)))), bu5⟩, by rw [ht]; exact hP, hD⟩, hS.F ht⟩)
    · refine lv_iload_n hx hb dX8_set_28 rfl (lv_at hl 2 rfl) ?_
      refine lv_iconst (v := 0) hx hb dX8_set_29 ci_0 ?_
      refine lv_iconst (v := 3) hx hb dX8_set_30 ci_3 ?_
      refine xc_i (wc := []) (wr := [(o, eMM r (.ref ma) fr (upd I 0 0) L), (ma, eMI mr MI), ((r 16), aI k 37 sv)]) hP hD hS hA [] [0, 1, 2] rfl rfl rfl (by decide) (xrS ⟨hx, hb, hml, hown, hts⟩ hg (m_X8_in l D k _ wa 0 3) hP hD [] rfl rfl trivial q1426 q1427 q93 q1428 xo_X8_in ⟨rfl, rfl⟩ ⟨Nat.le_of_ble_eq_true rfl, Nat.le_of_ble_eq_true rfl⟩ hl.1 (Nat.le_of_ble_eq_true rfl) dX8_set_31 ⟨Nat.le_of_ble_eq_true rfl, Nat.le_of_ble_eq_true rfl⟩ rfl) (fun u6 r_ H locs hw hP hD hS hk => ?_)
      obtain ⟨rfl, eu6, bu6⟩ := hw
      replace hP : va_P D vwCl [(o, eMM r (.ref ma) fr (upd I 0 0) L), (ma, eMI mr MI), ((r 16), aI k 37 sv)] H := hP.sub [0, 1, 2] rfl
      replace hD : va_D A [(o, eMM r (.ref ma) fr (upd I 0 0) L), (ma, eMI mr MI), ((r 16), aI k 37 sv)] := hD.sub [0, 1, 2] (by decide) rfl
      refine lv_if_ne (tgt := 43) hx hb dX8_set_34 (by decide) (fun c7 => ?_) (fun c7 => ?_)
      · refine lv_aload_n hx hb dX8_set_43 rfl (lv_at hl 0 rfl) ?_
        refine va_get (D := D) (ci := 10) (v := .ref (r 16)) (C := RX8) (T := TX8) (N := 37) hx hb hts in_X8 hown hg.1 hP 0 rfl rfl 16 (Nat.le_of_ble_eq_true rfl) (hts _ q1157) (fun _ h9 => h9) rfl dX8_set_44 ?_
        refine lv_bipush (v := 34) hx hb dX8_set_47 cb_34 ?_
        refine lv_iload_n hx hb dX8_set_49 rfl (lv_at hl 1 rfl) ?_
        refine xa_iast hx hb hg hP hD hS 2 rfl xl_34 (by omega) (by omega) dX8_set_50 (fun f8 H locs ef8 hP hD hS => ?_)
        replace hP : va_P D vwCl [(o, eMM r (.ref ma) fr (upd I 0 0) L), (ma, eMI mr MI), ((r 16), aI k 37 f8)] H := hP
        replace hD : va_D A [(o, eMM r (.ref ma) fr (upd I 0 0) L), (ma, eMI mr MI), ((r 16), aI k 37 f8)] := hD
        refine lv_aload_n hx hb dX8_set_51 rfl (lv_at hl 0 rfl) ?_
        refine va_get (D := D) (ci := 10) (v := .ref (r 16)) (C := RX8) (T := TX8) (N := 37) hx hb hts in_X8 hown hg.1 hP 0 rfl rfl 16 (Nat.le_of_ble_eq_true rfl) (hts _ q1157) (fun _ h9 => h9) rfl dX8_set_52 ?_
        refine lv_bipush (v := 35) hx hb dX8_set_55 cb_35 ?_
        refine lv_iload_n hx hb dX8_set_57 rfl (lv_at hl 2 rfl) ?_
        refine xa_iast hx hb hg hP hD hS 2 rfl xl_35 (by omega) (by omega) dX8_set_58 (fun f9 H locs ef9 hP hD hS => ?_)
        replace hP : va_P D vwCl [(o, eMM r (.ref ma) fr (upd I 0 0) L), (ma, eMI mr MI), ((r 16), aI k 37 f9)] H := hP
        replace hD : va_D A [(o, eMM r (.ref ma) fr (upd I 0 0) L), (ma, eMI mr MI), ((r 16), aI k 37 f9)] := hD
        refine lv_aload_n hx hb dX8_set_59 rfl (lv_at hl 0 rfl) ?_
        refine va_get (D := D) (ci := 10) (v := .ref (r 16)) (C := RX8) (T := TX8) (N := 37) hx hb hts in_X8 hown hg.1 hP 0 rfl rfl 16 (Nat.le_of_ble_eq_true rfl) (hts _ q1157) (fun _ h9 => h9) rfl dX8_set_60 ?_
        refine lv_bipush (v := 36) hx hb dX8_set_63 cb_36 ?_
        refine lv_iload_n hx hb dX8_set_65 rfl (lv_at hl 3 rfl) ?_
        refine xa_iast hx hb hg hP hD hS 2 rfl xl_36 (by omega) (by omega) dX8_set_66 (fun f10 H locs ef10 hP hD hS => ?_)
        replace hP : va_P D vwCl [(o, eMM r (.ref ma) fr (upd I 0 0) L), (ma, eMI mr MI), ((r 16), aI k 37 f10)] H := hP
        replace hD : va_D A [(o, eMM r (.ref ma) fr (upd I 0 0) L), (ma, eMI mr MI), ((r 16), aI k 37 f10)] := hD
        refine lv_aload_n hx hb dX8_set_67 rfl (lv_at hl 0 rfl) ?_
        refine xc_i (wc := [(o, eMM r (.ref ma) fr (upd I 0 0) L)]) (wr := [(ma, eMI mr MI), ((r 16), aI k 37 f10)]) hP hD hS hA [0] [1, 2] rfl rfl rfl (by decide) (xrV ⟨hx, hb, hml, hown, hts⟩ hg (m_X8_granted l D k _ o r (.ref ma) fr (upd I 0 0) L) hP hD [0] rfl rfl trivial (ci := 10) (q0 := 0) rfl rfl rfl q1506 q1508 qs63 q93 q1509 xo_X8_granted ⟨rfl, rfl⟩ ⟨Nat.le_of_ble_eq_true rfl, Nat.le_of_ble_eq_true rfl⟩ hl.1 (Nat.le_of_ble_eq_true rfl) dX8_set_68 ⟨Nat.le_of_ble_eq_true rfl, Nat.le_of_ble_eq_true rfl⟩ rfl) (fun r_ u11 H locs hw hP hD hS hk => ?_)
        obtain ⟨rfl, eu11, bu11⟩ := hw
        replace hP : va_P D vwCl [(o, eMM r (.ref ma) fr (upd (upd (upd I 0 0) 1 u11.2.1) 2 u11.2.2) L), (ma, eMI mr MI), ((r 16), aI k 37 f10)] H := hP.sub [2, 0, 1] rfl
        replace hD : va_D A [(o, eMM r (.ref ma) fr (upd (upd (upd I 0 0) 1 u11.2.1) 2 u11.2.2) L), (ma, eMI mr MI), ((r 16), aI k 37 f10)] := hD.sub [2, 0, 1] (by decide) rfl
        exact xret_z hx hb hr hlocks (Nat.le_of_ble_eq_true rfl) (Nat.le_of_ble_eq_true rfl) hS.2.2 dX8_set_71 bu11 (fun t ht => ⟨⟨u11.1, (u11.1, 0, u11.2.1, u11.2.2, f10), rfl, ⟨rfl, (by subst eu11; subst ef10; subst ef9; subst ef8; subst eu6; subst eu3; subst eu1; exact Eq.symm (Eq.trans (if_neg c2) (Eq.trans (if_neg c4) (Eq.trans (if_neg c7) (rfl))))), bu11⟩, by rw [ht]; exact hP, hD⟩, hS.F ht⟩)
      · refine lv_aload_n hx hb dX8_set_37 rfl (lv_at hl 0 rfl) ?_
        refine lv_iconst (v := 2) hx hb dX8_set_38 ci_2 ?_
        refine xc_i (wc := [(o, eMM r (.ref ma) fr (upd I 0 0) L)]) (wr := [(ma, eMI mr MI), ((r 16), aI k 37 sv)]) hP hD hS hA [0] [1, 2] rfl rfl rfl (by decide) (xrV ⟨hx, hb, hml, hown, hts⟩ hg (m_X8_denied l D k _ o r (.ref ma) fr (upd I 0 0) L 2) hP hD [0] rfl rfl trivial (ci := 10) (q0 := 0) rfl rfl rfl q1502 q1504 qs62 q93 q1505 xo_X8_denied ⟨rfl, rfl⟩ ⟨Nat.le_of_ble_eq_true rfl, Nat.le_of_ble_eq_true rfl⟩ hl.1 (Nat.le_of_ble_eq_true rfl) dX8_set_39 ⟨Nat.le_of_ble_eq_true rfl, Nat.le_of_ble_eq_true rfl⟩ rfl) (fun r_ u12 H locs hw hP hD hS hk => ?_)
        obtain ⟨rfl, eu12, bu12⟩ := hw
        replace hP : va_P D vwCl [(o, eMM r (.ref ma) fr (upd (upd (upd I 0 0) 1 u12.2.1) 2 u12.2.2) L), (ma, eMI mr MI), ((r 16), aI k 37 sv)] H := hP.sub [2, 0, 1] rfl
        replace hD : va_D A [(o, eMM r (.ref ma) fr (upd (upd (upd I 0 0) 1 u12.2.1) 2 u12.2.2) L), (ma, eMI mr MI), ((r 16), aI k 37 sv)] := hD.sub [2, 0, 1] (by decide) rfl
        exact xret_z hx hb hr hlocks (Nat.le_of_ble_eq_true rfl) (Nat.le_of_ble_eq_true rfl) hS.2.2 dX8_set_42 bu12 (fun t ht => ⟨⟨u12.1, (u12.1, 0, u12.2.1, u12.2.2, sv), rfl, ⟨rfl, (by subst eu12; subst eu6; subst eu3; subst eu1; exact Eq.symm (Eq.trans (if_neg c2) (Eq.trans (if_neg c4) (Eq.trans (if_pos c7) (rfl))))), bu12⟩, by rw [ht]; exact hP, hD⟩, hS.F ht⟩)
  · refine lv_aload_n hx hb dX8_set_13 rfl (lv_at hl 0 rfl) ?_
    refine lv_iconst (v := 1) hx hb dX8_set_14 ci_1 ?_
    refine xc_i (wc := [(o, eMM r (.ref ma) fr (upd I 0 0) L)]) (wr := [(ma, eMI mr MI), ((r 16), aI k 37 sv)]) hP hD hS hA [0] [1, 2] rfl rfl rfl (by decide) (xrV ⟨hx, hb, hml, hown, hts⟩ hg (m_X8_denied l D k _ o r (.ref ma) fr (upd I 0 0) L 1) hP hD [0] rfl rfl trivial (ci := 10) (q0 := 0) rfl rfl rfl q1502 q1504 qs62 q93 q1505 xo_X8_denied ⟨rfl, rfl⟩ ⟨Nat.le_of_ble_eq_true rfl, Nat.le_of_ble_eq_true rfl⟩ hl.1 (Nat.le_of_ble_eq_true rfl) dX8_set_15 ⟨Nat.le_of_ble_eq_true rfl, Nat.le_of_ble_eq_true rfl⟩ rfl) (fun r_ u13 H locs hw hP hD hS hk => ?_)
    obtain ⟨rfl, eu13, bu13⟩ := hw
    replace hP : va_P D vwCl [(o, eMM r (.ref ma) fr (upd (upd (upd I 0 0) 1 u13.2.1) 2 u13.2.2) L), (ma, eMI mr MI), ((r 16), aI k 37 sv)] H := hP.sub [2, 0, 1] rfl
    replace hD : va_D A [(o, eMM r (.ref ma) fr (upd (upd (upd I 0 0) 1 u13.2.1) 2 u13.2.2) L), (ma, eMI mr MI), ((r 16), aI k 37 sv)] := hD.sub [2, 0, 1] (by decide) rfl
    exact xret_z hx hb hr hlocks (Nat.le_of_ble_eq_true rfl) (Nat.le_of_ble_eq_true rfl) hS.2.2 dX8_set_18 bu13 (fun t ht => ⟨⟨u13.1, (u13.1, 0, u13.2.1, u13.2.2, sv), rfl, ⟨rfl, (by subst eu13; subst eu1; exact Eq.symm (Eq.trans (if_pos c2) (rfl))), bu13⟩, by rw [ht]; exact hP, hD⟩, hS.F ht⟩)

def f_X8_setN  : Int32 × Int32 × Int32 × Int32 :=
  let u1 := f_X8_isOreN
  let u2 := f_X8_denied 1
  (u2.1, 0, u2.2.1, u2.2.2)
abbrev q_X8_setN (D : va_G) (k : KK) (o : Nat) (r : Nat → Nat) (fr : Value) (I : Nat → Int32) (L : Nat → Int64) (sv : Nat → Int32) (ra : Int32) (wa : Int32) (oi : Int32) (A : Nat → Prop) : Array Value → State → Outcome → State → Prop := va_Qi (fun (r_ : Int32) (u : Int32 × Int32 × Int32 × Int32) => r_ = u.1 ∧ u = f_X8_setN ∧ (r_ = 0 ∨ r_ = 1)) (bx D (fun u => [(o, eMM r .null fr (upd (upd (upd I 0 u.2.1) 1 u.2.2.1) 2 u.2.2.2) L), ((r 16), aI k 37 sv)]) A) A
abbrev rm_X8_setN : Room := { frames := 3, cells := 0, slots := 0, locals := 120 }
set_option maxHeartbeats 8000000 in
theorem m_X8_setN (l : Launch) (D : va_G) (k : KK) (sz : Nat) (o : Nat) (r : Nat → Nat) (fr : Value) (I : Nat → Int32) (L : Nat → Int64) (sv : Nat → Int32) (ra : Int32) (wa : Int32) (oi : Int32)  : Met l yX8_set (ws_ yX8_set cX8_set 4 (some .boolean)) rm_X8_setN (pcx D k [.ref o, .int ra, .int wa, .int oi] sz [(o, eMM r .null fr I L), ((r 16), aI k 37 sv)] (fun _ => True)) (q_X8_setN D k o r fr I L sv ra wa oi (va_A [(o, eMM r .null fr I L), ((r 16), aI k 37 sv)] sz)) 0 0 (va_A [(o, eMM r .null fr I L), ((r 16), aI k 37 sv)] sz) := by
  refine Met.start (Qc := q_X8_setN D k o r fr I L sv ra wa oi) (by decide) (Nat.le_of_ble_eq_true rfl) ?_
  intro p e s m below meth c A hx hb hr hlocks hml hown hin hts hg hP hD hA hAn hS hY hsz ls hl
  have hown : s.vm.findClass RX8 = some m.cls := hown
  have hl : lv_has ls 4 [(0, .ref o), (1, .int ra), (2, .int wa), (3, .int oi)] := hl
  refine lv_aload_n hx hb dX8_set_0 rfl (lv_at hl 0 rfl) ?_
  refine lv_iconst (v := 0) hx hb dX8_set_1 ci_0 ?_
  refine va_put (D := D) (ci := 10) (v := .int 0) (C := RX8) (T := TX8) (N := 37) hx hb hts in_X8 tyX8 tyX8_ok nmX8 hown hg.1 hP hD hS 0 rfl rfl 0 (Nat.le_of_ble_eq_true rfl) (hts _ q1141) (fun _ h9 => h9) rfl ftX8_0 rfl rfl (Nat.le_of_ble_eq_true rfl) dX8_set_2 (fun H locs hP hD hS => ?_)
  replace hP : va_P D vwCl [(o, eMM r .null fr (upd I 0 0) L), ((r 16), aI k 37 sv)] H := hP
  replace hD : va_D A [(o, eMM r .null fr (upd I 0 0) L), ((r 16), aI k 37 sv)] := hD
  refine lv_aload_n hx hb dX8_set_5 rfl (lv_at hl 0 rfl) ?_
  refine lv_iload_n hx hb dX8_set_6 rfl (lv_at hl 3 rfl) ?_
  refine xc_i (wc := [(o, eMM r .null fr (upd I 0 0) L)]) (wr := [((r 16), aI k 37 sv)]) hP hD hS hA [0] [1] rfl rfl rfl (by decide) (xrV ⟨hx, hb, hml, hown, hts⟩ hg (m_X8_isOreN l D k _ o r fr (upd I 0 0) L oi) hP hD [0] rfl rfl trivial (ci := 10) (q0 := 0) rfl rfl rfl q1498 q1500 qs61 q93 q1501 xo_X8_isOre ⟨rfl, rfl⟩ ⟨Nat.le_of_ble_eq_true rfl, Nat.le_of_ble_eq_true rfl⟩ hl.1 (Nat.le_of_ble_eq_true rfl) dX8_set_7 ⟨Nat.le_of_ble_eq_true rfl, Nat.le_of_ble_eq_true rfl⟩ rfl) (fun u1 r_ H locs hw hP hD hS hk => ?_)
  obtain ⟨rfl, eu1, bu1⟩ := hw
  replace hP : va_P D vwCl [(o, eMM r .null fr (upd I 0 0) L), ((r 16), aI k 37 sv)] H := hP.sub [1, 0] rfl
  replace hD : va_D A [(o, eMM r .null fr (upd I 0 0) L), ((r 16), aI k 37 sv)] := hD.sub [1, 0] (by decide) rfl
  refine lv_if_ne (tgt := 19) hx hb dX8_set_10 (by decide) (fun c => absurd ((eu1).trans rfl) c) (fun _ => ?_)
  refine lv_aload_n hx hb dX8_set_13 rfl (lv_at hl 0 rfl) ?_
  refine lv_iconst (v := 1) hx hb dX8_set_14 ci_1 ?_
  refine xc_i (wc := [(o, eMM r .null fr (upd I 0 0) L)]) (wr := [((r 16), aI k 37 sv)]) hP hD hS hA [0] [1] rfl rfl rfl (by decide) (xrV ⟨hx, hb, hml, hown, hts⟩ hg (m_X8_denied l D k _ o r .null fr (upd I 0 0) L 1) hP hD [0] rfl rfl trivial (ci := 10) (q0 := 0) rfl rfl rfl q1502 q1504 qs62 q93 q1505 xo_X8_denied ⟨rfl, rfl⟩ ⟨Nat.le_of_ble_eq_true rfl, Nat.le_of_ble_eq_true rfl⟩ hl.1 (Nat.le_of_ble_eq_true rfl) dX8_set_15 ⟨Nat.le_of_ble_eq_true rfl, Nat.le_of_ble_eq_true rfl⟩ rfl) (fun r_ u2 H locs hw hP hD hS hk => ?_)
  obtain ⟨rfl, eu2, bu2⟩ := hw
  replace hP : va_P D vwCl [(o, eMM r .null fr (upd (upd (upd I 0 0) 1 u2.2.1) 2 u2.2.2) L), ((r 16), aI k 37 sv)] H := hP.sub [1, 0] rfl
  replace hD : va_D A [(o, eMM r .null fr (upd (upd (upd I 0 0) 1 u2.2.1) 2 u2.2.2) L), ((r 16), aI k 37 sv)] := hD.sub [1, 0] (by decide) rfl
  exact xret_z hx hb hr hlocks (Nat.le_of_ble_eq_true rfl) (Nat.le_of_ble_eq_true rfl) hS.2.2 dX8_set_18 bu2 (fun t ht => ⟨⟨u2.1, (u2.1, 0, u2.2.1, u2.2.2), rfl, ⟨rfl, (by subst eu2; subst eu1; exact rfl), bu2⟩, by rw [ht]; exact hP, hD⟩, hS.F ht⟩)

def f_X8_mend_j1 (li : Int32) (f3 : Nat → Int32) : (Nat → Int32) :=
  if li = 0 then
    f3
  else
    let f11 := upd f3 24 0
    f11
def f_X8_mend (sv : Nat → Int32) (te : Int32) (li : Int32) : Int32 × Int32 × Int32 × Int32 × (Nat → Int32) :=
  let u1 := f_X8_in te 0 3
  if u1 = 0 then
    let u12 := f_X8_denied 2
    (u12.1, 0, u12.2.1, u12.2.2, sv)
  else
    let f3 := upd sv 25 te
    let v8 := f_X8_mend_j1 li f3
    let u9 := f_X8_granted
    (u9.1, 0, u9.2.1, u9.2.2, v8)
abbrev q_X8_mend (D : va_G) (k : KK) (o : Nat) (r : Nat → Nat) (fr : Value) (I : Nat → Int32) (L : Nat → Int64) (ma : Nat) (mr : Nat → Nat) (MI : Nat → Int32) (sv : Nat → Int32) (te : Int32) (li : Int32) (A : Nat → Prop) : Array Value → State → Outcome → State → Prop := va_Qi (fun (r_ : Int32) (u : Int32 × Int32 × Int32 × Int32 × (Nat → Int32)) => r_ = u.1 ∧ u = f_X8_mend sv te li ∧ (r_ = 0 ∨ r_ = 1)) (bx D (fun u => [(o, eMM r (.ref ma) fr (upd (upd (upd I 0 u.2.1) 1 u.2.2.1) 2 u.2.2.2.1) L), (ma, eMI mr MI), ((r 16), aI k 37 u.2.2.2.2)]) A) A
abbrev rm_X8_mend : Room := { frames := 3, cells := 0, slots := 0, locals := 120 }
theorem xo_X8_mend : xok yX8_mend 2 := by unfold xok; decide +kernel
set_option maxHeartbeats 8000000 in
theorem m_X8_mend (l : Launch) (D : va_G) (k : KK) (sz : Nat) (o : Nat) (r : Nat → Nat) (fr : Value) (I : Nat → Int32) (L : Nat → Int64) (ma : Nat) (mr : Nat → Nat) (MI : Nat → Int32) (sv : Nat → Int32) (te : Int32) (li : Int32)  : Met l yX8_mend (ws_ yX8_mend cX8_mend 3 (some .boolean)) rm_X8_mend (pcx D k [.ref o, .int te, .int li] sz [(o, eMM r (.ref ma) fr I L), (ma, eMI mr MI), ((r 16), aI k 37 sv)] (fun _ => True)) (q_X8_mend D k o r fr I L ma mr MI sv te li (va_A [(o, eMM r (.ref ma) fr I L), (ma, eMI mr MI), ((r 16), aI k 37 sv)] sz)) 0 0 (va_A [(o, eMM r (.ref ma) fr I L), (ma, eMI mr MI), ((r 16), aI k 37 sv)] sz) := by
  refine Met.start (Qc := q_X8_mend D k o r fr I L ma mr MI sv te li) (by decide) (Nat.le_of_ble_eq_true rfl) ?_
  intro p e s m below meth c A hx hb hr hlocks hml hown hin hts hg hP hD hA hAn hS hY hsz ls hl
  have hown : s.vm.findClass RX8 = some m.cls := hown
  have hl : lv_has ls 3 [(0, .ref o), (1, .int te), (2, .int li)] := hl
  refine lv_aload_n hx hb dX8_mend_0 rfl (lv_at hl 0 rfl) ?_
  refine lv_iconst (v := 0) hx hb dX8_mend_1 ci_0 ?_
  refine va_put (D := D) (ci := 10) (v := .int 0) (C := RX8) (T := TX8) (N := 37) hx hb hts in_X8 tyX8 tyX8_ok nmX8 hown hg.1 hP hD hS 0 rfl rfl 0 (Nat.le_of_ble_eq_true rfl) (hts _ q1141) (fun _ h9 => h9) rfl ftX8_0 rfl rfl (Nat.le_of_ble_eq_true rfl) dX8_mend_2 (fun H locs hP hD hS => ?_)
  replace hP : va_P D vwCl [(o, eMM r (.ref ma) fr (upd I 0 0) L), (ma, eMI mr MI), ((r 16), aI k 37 sv)] H := hP
  replace hD : va_D A [(o, eMM r (.ref ma) fr (upd I 0 0) L), (ma, eMI mr MI), ((r 16), aI k 37 sv)] := hD
  refine lv_aload_n hx hb dX8_mend_5 rfl (lv_at hl 0 rfl) ?_
  refine va_get (D := D) (ci := 10) (v := .ref ma) (C := RX8) (T := TX8) (N := 37) hx hb hts in_X8 hown hg.1 hP 0 rfl rfl 3 (Nat.le_of_ble_eq_true rfl) (hts _ q1144) (fun _ h9 => h9) rfl dX8_mend_6 ?_
  refine lv_ifnonnull (tgt := 18) hx hb dX8_mend_9 (by decide) ?_
  refine lv_iload_n hx hb dX8_mend_18 rfl (lv_at hl 1 rfl) ?_
  refine lv_iconst (v := 0) hx hb dX8_mend_19 ci_0 ?_
  refine lv_iconst (v := 3) hx hb dX8_mend_20 ci_3 ?_
  refine xc_i (wc := []) (wr := [(o, eMM r (.ref ma) fr (upd I 0 0) L), (ma, eMI mr MI), ((r 16), aI k 37 sv)]) hP hD hS hA [] [0, 1, 2] rfl rfl rfl (by decide) (xrS ⟨hx, hb, hml, hown, hts⟩ hg (m_X8_in l D k _ te 0 3) hP hD [] rfl rfl trivial q1426 q1427 q93 q1428 xo_X8_in ⟨rfl, rfl⟩ ⟨Nat.le_of_ble_eq_true rfl, Nat.le_of_ble_eq_true rfl⟩ hl.1 (Nat.le_of_ble_eq_true rfl) dX8_mend_21 ⟨Nat.le_of_ble_eq_true rfl, Nat.le_of_ble_eq_true rfl⟩ rfl) (fun u1 r_ H locs hw hP hD hS hk => ?_)
  obtain ⟨rfl, eu1, bu1⟩ := hw
  replace hP : va_P D vwCl [(o, eMM r (.ref ma) fr (upd I 0 0) L), (ma, eMI mr MI), ((r 16), aI k 37 sv)] H := hP.sub [0, 1, 2] rfl
  replace hD : va_D A [(o, eMM r (.ref ma) fr (upd I 0 0) L), (ma, eMI mr MI), ((r 16), aI k 37 sv)] := hD.sub [0, 1, 2] (by decide) rfl
  refine lv_if_ne (tgt := 33) hx hb dX8_mend_24 (by decide) (fun c2 => ?_) (fun c2 => ?_)
  · refine lv_aload_n hx hb dX8_mend_33 rfl (lv_at hl 0 rfl) ?_
    refine va_get (D := D) (ci := 10) (v := .ref (r 16)) (C := RX8) (T := TX8) (N := 37) hx hb hts in_X8 hown hg.1 hP 0 rfl rfl 16 (Nat.le_of_ble_eq_true rfl) (hts _ q1157) (fun _ h9 => h9) rfl dX8_mend_34 ?_
    refine lv_bipush (v := 25) hx hb dX8_mend_37 cb_25 ?_
    refine lv_iload_n hx hb dX8_mend_39 rfl (lv_at hl 1 rfl) ?_
    refine xa_iast hx hb hg hP hD hS 2 rfl xl_25 (by omega) (by omega) dX8_mend_40 (fun f3 H locs ef3 hP hD hS => ?_)
    replace hP : va_P D vwCl [(o, eMM r (.ref ma) fr (upd I 0 0) L), (ma, eMI mr MI), ((r 16), aI k 37 f3)] H := hP
    replace hD : va_D A [(o, eMM r (.ref ma) fr (upd I 0 0) L), (ma, eMI mr MI), ((r 16), aI k 37 f3)] := hD
    refine lv_iload_n hx hb dX8_mend_41 rfl (lv_at hl 2 rfl) ?_
    have Jn1 : ∀ (v8 : (Nat → Int32)) (H : Heap) (locs : List Loc) (ls : Array Slot), v8 = f_X8_mend_j1 li f3 → va_P D vwCl [(o, eMM r (.ref ma) fr (upd I 0 0) L), (ma, eMI mr MI), ((r 16), aI k 37 v8)] H → va_D A [(o, eMM r (.ref ma) fr (upd I 0 0) L), (ma, eMI mr MI), ((r 16), aI k 37 v8)] → va_S A s.heap H locs → lv_has ls 3 [(0, .ref o), (1, .int te), (2, .int li)] → W p l e rm_X8_mend s m ([.ref o, .int te, .int li] : List Value).toArray below meth c H locs 0 0 (MQ below (q_X8_mend D k o r fr I L ma mr MI sv te li A) ([.ref o, .int te, .int li] : List Value).toArray s 0 0 A) (F0 m 53 ls []) := by
      intro v8 H locs ls ev8 hP hD hS hl
      refine lv_aload_n hx hb dX8_mend_53 rfl (lv_at hl 0 rfl) ?_
      refine xc_i (wc := [(o, eMM r (.ref ma) fr (upd I 0 0) L)]) (wr := [(ma, eMI mr MI), ((r 16), aI k 37 v8)]) hP hD hS hA [0] [1, 2] rfl rfl rfl (by decide) (xrV ⟨hx, hb, hml, hown, hts⟩ hg (m_X8_granted l D k _ o r (.ref ma) fr (upd I 0 0) L) hP hD [0] rfl rfl trivial (ci := 10) (q0 := 0) rfl rfl rfl q1506 q1508 qs63 q93 q1509 xo_X8_granted ⟨rfl, rfl⟩ ⟨Nat.le_of_ble_eq_true rfl, Nat.le_of_ble_eq_true rfl⟩ hl.1 (Nat.le_of_ble_eq_true rfl) dX8_mend_54 ⟨Nat.le_of_ble_eq_true rfl, Nat.le_of_ble_eq_true rfl⟩ rfl) (fun r_ u9 H locs hw hP hD hS hk => ?_)
      obtain ⟨rfl, eu9, bu9⟩ := hw
      replace hP : va_P D vwCl [(o, eMM r (.ref ma) fr (upd (upd (upd I 0 0) 1 u9.2.1) 2 u9.2.2) L), (ma, eMI mr MI), ((r 16), aI k 37 v8)] H := hP.sub [2, 0, 1] rfl
      replace hD : va_D A [(o, eMM r (.ref ma) fr (upd (upd (upd I 0 0) 1 u9.2.1) 2 u9.2.2) L), (ma, eMI mr MI), ((r 16), aI k 37 v8)] := hD.sub [2, 0, 1] (by decide) rfl
      exact xret_z hx hb hr hlocks (Nat.le_of_ble_eq_true rfl) (Nat.le_of_ble_eq_true rfl) hS.2.2 dX8_mend_57 bu9 (fun t ht => ⟨⟨u9.1, (u9.1, 0, u9.2.1, u9.2.2, v8), rfl, ⟨rfl, (by subst eu9; subst ev8; subst ef3; subst eu1; exact Eq.symm (Eq.trans (if_neg c2) (rfl))), bu9⟩, by rw [ht]; exact hP, hD⟩, hS.F ht⟩)
    refine lv_if_eq (tgt := 53) hx hb dX8_mend_42 (by decide) (fun c10 => ?_) (fun c10 => ?_)
    · exact Jn1 f3 _ _ _ (by exact Eq.symm (Eq.trans (if_pos c10) (rfl))) hP hD hS (lv_sub hl [0, 1, 2] rfl)
    · refine lv_aload_n hx hb dX8_mend_45 rfl (lv_at hl 0 rfl) ?_
      refine va_get (D := D) (ci := 10) (v := .ref (r 16)) (C := RX8) (T := TX8) (N := 37) hx hb hts in_X8 hown hg.1 hP 0 rfl rfl 16 (Nat.le_of_ble_eq_true rfl) (hts _ q1157) (fun _ h9 => h9) rfl dX8_mend_46 ?_
      refine lv_bipush (v := 24) hx hb dX8_mend_49 cb_24 ?_
      refine lv_iconst (v := 0) hx hb dX8_mend_51 ci_0 ?_
      refine xa_iast hx hb hg hP hD hS 2 rfl xl_24 (by omega) (by omega) dX8_mend_52 (fun f11 H locs ef11 hP hD hS => ?_)
      replace hP : va_P D vwCl [(o, eMM r (.ref ma) fr (upd I 0 0) L), (ma, eMI mr MI), ((r 16), aI k 37 f11)] H := hP
      replace hD : va_D A [(o, eMM r (.ref ma) fr (upd I 0 0) L), (ma, eMI mr MI), ((r 16), aI k 37 f11)] := hD
      exact Jn1 f11 _ _ _ (by subst ef11; exact Eq.symm (Eq.trans (if_neg c10) (rfl))) hP hD hS (lv_sub hl [0, 1, 2] rfl)
  · refine lv_aload_n hx hb dX8_mend_27 rfl (lv_at hl 0 rfl) ?_
    refine lv_iconst (v := 2) hx hb dX8_mend_28 ci_2 ?_
    refine xc_i (wc := [(o, eMM r (.ref ma) fr (upd I 0 0) L)]) (wr := [(ma, eMI mr MI), ((r 16), aI k 37 sv)]) hP hD hS hA [0] [1, 2] rfl rfl rfl (by decide) (xrV ⟨hx, hb, hml, hown, hts⟩ hg (m_X8_denied l D k _ o r (.ref ma) fr (upd I 0 0) L 2) hP hD [0] rfl rfl trivial (ci := 10) (q0 := 0) rfl rfl rfl q1502 q1504 qs62 q93 q1505 xo_X8_denied ⟨rfl, rfl⟩ ⟨Nat.le_of_ble_eq_true rfl, Nat.le_of_ble_eq_true rfl⟩ hl.1 (Nat.le_of_ble_eq_true rfl) dX8_mend_29 ⟨Nat.le_of_ble_eq_true rfl, Nat.le_of_ble_eq_true rfl⟩ rfl) (fun r_ u12 H locs hw hP hD hS hk => ?_)
    obtain ⟨rfl, eu12, bu12⟩ := hw
    replace hP : va_P D vwCl [(o, eMM r (.ref ma) fr (upd (upd (upd I 0 0) 1 u12.2.1) 2 u12.2.2) L), (ma, eMI mr MI), ((r 16), aI k 37 sv)] H := hP.sub [2, 0, 1] rfl
    replace hD : va_D A [(o, eMM r (.ref ma) fr (upd (upd (upd I 0 0) 1 u12.2.1) 2 u12.2.2) L), (ma, eMI mr MI), ((r 16), aI k 37 sv)] := hD.sub [2, 0, 1] (by decide) rfl
    exact xret_z hx hb hr hlocks (Nat.le_of_ble_eq_true rfl) (Nat.le_of_ble_eq_true rfl) hS.2.2 dX8_mend_32 bu12 (fun t ht => ⟨⟨u12.1, (u12.1, 0, u12.2.1, u12.2.2, sv), rfl, ⟨rfl, (by subst eu12; subst eu1; exact Eq.symm (Eq.trans (if_pos c2) (rfl))), bu12⟩, by rw [ht]; exact hP, hD⟩, hS.F ht⟩)

def f_X8_mendN  : Int32 × Int32 × Int32 × Int32 :=
  let u1 := f_X8_denied 1
  (u1.1, 0, u1.2.1, u1.2.2)
abbrev q_X8_mendN (D : va_G) (k : KK) (o : Nat) (r : Nat → Nat) (fr : Value) (I : Nat → Int32) (L : Nat → Int64) (sv : Nat → Int32) (te : Int32) (li : Int32) (A : Nat → Prop) : Array Value → State → Outcome → State → Prop := va_Qi (fun (r_ : Int32) (u : Int32 × Int32 × Int32 × Int32) => r_ = u.1 ∧ u = f_X8_mendN ∧ (r_ = 0 ∨ r_ = 1)) (bx D (fun u => [(o, eMM r .null fr (upd (upd (upd I 0 u.2.1) 1 u.2.2.1) 2 u.2.2.2) L), ((r 16), aI k 37 sv)]) A) A
abbrev rm_X8_mendN : Room := { frames := 3, cells := 0, slots := 0, locals := 120 }
set_option maxHeartbeats 8000000 in
theorem m_X8_mendN (l : Launch) (D : va_G) (k : KK) (sz : Nat) (o : Nat) (r : Nat → Nat) (fr : Value) (I : Nat → Int32) (L : Nat → Int64) (sv : Nat → Int32) (te : Int32) (li : Int32)  : Met l yX8_mend (ws_ yX8_mend cX8_mend 3 (some .boolean)) rm_X8_mendN (pcx D k [.ref o, .int te, .int li] sz [(o, eMM r .null fr I L), ((r 16), aI k 37 sv)] (fun _ => True)) (q_X8_mendN D k o r fr I L sv te li (va_A [(o, eMM r .null fr I L), ((r 16), aI k 37 sv)] sz)) 0 0 (va_A [(o, eMM r .null fr I L), ((r 16), aI k 37 sv)] sz) := by
  refine Met.start (Qc := q_X8_mendN D k o r fr I L sv te li) (by decide) (Nat.le_of_ble_eq_true rfl) ?_
  intro p e s m below meth c A hx hb hr hlocks hml hown hin hts hg hP hD hA hAn hS hY hsz ls hl
  have hown : s.vm.findClass RX8 = some m.cls := hown
  have hl : lv_has ls 3 [(0, .ref o), (1, .int te), (2, .int li)] := hl
  refine lv_aload_n hx hb dX8_mend_0 rfl (lv_at hl 0 rfl) ?_
  refine lv_iconst (v := 0) hx hb dX8_mend_1 ci_0 ?_
  refine va_put (D := D) (ci := 10) (v := .int 0) (C := RX8) (T := TX8) (N := 37) hx hb hts in_X8 tyX8 tyX8_ok nmX8 hown hg.1 hP hD hS 0 rfl rfl 0 (Nat.le_of_ble_eq_true rfl) (hts _ q1141) (fun _ h9 => h9) rfl ftX8_0 rfl rfl (Nat.le_of_ble_eq_true rfl) dX8_mend_2 (fun H locs hP hD hS => ?_)
  replace hP : va_P D vwCl [(o, eMM r .null fr (upd I 0 0) L), ((r 16), aI k 37 sv)] H := hP
  replace hD : va_D A [(o, eMM r .null fr (upd I 0 0) L), ((r 16), aI k 37 sv)] := hD
  refine lv_aload_n hx hb dX8_mend_5 rfl (lv_at hl 0 rfl) ?_
  refine va_get (D := D) (ci := 10) (v := .null) (C := RX8) (T := TX8) (N := 37) hx hb hts in_X8 hown hg.1 hP 0 rfl rfl 3 (Nat.le_of_ble_eq_true rfl) (hts _ q1144) (fun _ h9 => h9) rfl dX8_mend_6 ?_
  refine lv_ifnonnullN hx hb dX8_mend_9 ?_
  refine lv_aload_n hx hb dX8_mend_12 rfl (lv_at hl 0 rfl) ?_
  refine lv_iconst (v := 1) hx hb dX8_mend_13 ci_1 ?_
  refine xc_i (wc := [(o, eMM r .null fr (upd I 0 0) L)]) (wr := [((r 16), aI k 37 sv)]) hP hD hS hA [0] [1] rfl rfl rfl (by decide) (xrV ⟨hx, hb, hml, hown, hts⟩ hg (m_X8_denied l D k _ o r .null fr (upd I 0 0) L 1) hP hD [0] rfl rfl trivial (ci := 10) (q0 := 0) rfl rfl rfl q1502 q1504 qs62 q93 q1505 xo_X8_denied ⟨rfl, rfl⟩ ⟨Nat.le_of_ble_eq_true rfl, Nat.le_of_ble_eq_true rfl⟩ hl.1 (Nat.le_of_ble_eq_true rfl) dX8_mend_14 ⟨Nat.le_of_ble_eq_true rfl, Nat.le_of_ble_eq_true rfl⟩ rfl) (fun r_ u1 H locs hw hP hD hS hk => ?_)
  obtain ⟨rfl, eu1, bu1⟩ := hw
  replace hP : va_P D vwCl [(o, eMM r .null fr (upd (upd (upd I 0 0) 1 u1.2.1) 2 u1.2.2) L), ((r 16), aI k 37 sv)] H := hP.sub [1, 0] rfl
  replace hD : va_D A [(o, eMM r .null fr (upd (upd (upd I 0 0) 1 u1.2.1) 2 u1.2.2) L), ((r 16), aI k 37 sv)] := hD.sub [1, 0] (by decide) rfl
  exact xret_z hx hb hr hlocks (Nat.le_of_ble_eq_true rfl) (Nat.le_of_ble_eq_true rfl) hS.2.2 dX8_mend_17 bu1 (fun t ht => ⟨⟨u1.1, (u1.1, 0, u1.2.1, u1.2.2), rfl, ⟨rfl, (by subst eu1; exact rfl), bu1⟩, by rw [ht]; exact hP, hD⟩, hS.F ht⟩)
