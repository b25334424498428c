set_option maxRecDepth 100000
def f_X1_in_j1 (v : Int32) (lo : Int32) (hi : Int32) : (Int32) :=
  if v < lo then
    0
  else
    if hi < v then
      0
    else
      1
def f_X1_in (v : Int32) (lo : Int32) (hi : Int32) : Int32 :=
  let v5 := f_X1_in_j1 v lo hi
  v5
abbrev q_X1_in (D : va_G) (k : KK) (v : Int32) (lo : Int32) (hi : Int32) (A : Nat → Prop) : Array Value → State → Outcome → State → Prop := va_Qi (fun (r_ : Int32) (u : Int32) => r_ = u ∧ u = f_X1_in v lo hi ∧ (r_ = 0 ∨ r_ = 1)) (bx D (fun u => []) A) A
abbrev rm_X1_in : Room := { frames := 1, cells := 0, slots := 0, locals := 40 }
theorem xo_X1_in : xok yX1_in 3 := by unfold xok; decide +kernel
set_option maxHeartbeats 8000000 in
theorem m_X1_in (l : Launch) (D : va_G) (k : KK) (sz : Nat) (v : Int32) (lo : Int32) (hi : Int32)  : Met l yX1_in (ws_ yX1_in cX1_in 3 (some .boolean)) rm_X1_in (pcx D k [.int v, .int lo, .int hi] sz [] (fun _ => True)) (q_X1_in D k v lo hi (va_A [] sz)) 0 0 (va_A [] sz) := by
  refine Met.start (Qc := q_X1_in D k v lo hi) (by decide) (Nat.le_of_ble_eq_true rfl) ?_
  intro p e s m below meth c A hx hb hr hlocks hml hown hin hts hg hP hD hA hAn hS hY hsz ls hl
  have hown : s.vm.findClass RX1 = some m.cls := hown
  have hl : lv_has ls 3 [(0, .int v), (1, .int lo), (2, .int hi)] := hl
  refine lv_iload_n hx hb dX1_in_0 rfl (lv_at hl 0 rfl) ?_
  refine lv_iload_n hx hb dX1_in_1 rfl (lv_at hl 1 rfl) ?_
  have Jn1 : ∀ (v5 : (Int32)) (H : Heap) (locs : List Loc) (ls : Array Slot), v5 = f_X1_in_j1 v lo hi → (v5 = 0 ∨ v5 = 1) → va_P D vwCl [] H → va_D A [] → va_S A s.heap H locs → lv_has ls 3 [(0, .int v), (1, .int lo), (2, .int hi)] → W p l e rm_X1_in s m ([.int v, .int lo, .int hi] : List Value).toArray below meth c H locs 0 0 (MQ below (q_X1_in D k v lo hi A) ([.int v, .int lo, .int hi] : List Value).toArray s 0 0 A) (F0 m 15 ls [.int v5]) := by
    intro v5 H locs ls ev5 bv5_0 hP hD hS hl
    exact xret_z hx hb hr hlocks (Nat.le_of_ble_eq_true rfl) (Nat.le_of_ble_eq_true rfl) hS.2.2 dX1_in_15 bv5_0 (fun t ht => ⟨⟨v5, v5, rfl, ⟨rfl, (by subst ev5; exact rfl), bv5_0⟩, by rw [ht]; exact hP, hD⟩, hS.F ht⟩)
  refine lv_icmp_lt (tgt := 14) hx hb dX1_in_2 (by decide) (fun c6 => ?_) (fun c6 => ?_)
  · refine lv_iconst (v := 0) hx hb dX1_in_14 ci_0 ?_
    exact Jn1 0 _ _ _ (by exact Eq.symm (Eq.trans (if_pos c6) (rfl))) (Or.inl rfl) hP hD hS (lv_sub hl [0, 1, 2] rfl)
  · refine lv_iload_n hx hb dX1_in_5 rfl (lv_at hl 0 rfl) ?_
    refine lv_iload_n hx hb dX1_in_6 rfl (lv_at hl 2 rfl) ?_
    refine lv_icmp_gt (tgt := 14) hx hb dX1_in_7 (by decide) (fun c7 => ?_) (fun c7 => ?_)
    · refine lv_iconst (v := 0) hx hb dX1_in_14 ci_0 ?_
      exact Jn1 0 _ _ _ (by exact Eq.symm (Eq.trans (if_neg c6) (Eq.trans (if_pos c7) (rfl)))) (Or.inl rfl) hP hD hS (lv_sub hl [0, 1, 2] rfl)
    · refine lv_iconst (v := 1) hx hb dX1_in_10 ci_1 ?_
      refine lv_goto (tgt := 15) hx hb dX1_in_11 (by decide) ?_
      exact Jn1 1 _ _ _ (by exact Eq.symm (Eq.trans (if_neg c6) (Eq.trans (if_neg c7) (rfl)))) (Or.inr rfl) hP hD hS (lv_sub hl [0, 1, 2] rfl)

def f_X1_anew  : Int32 × Int32 :=
  (0, (-1))
abbrev q_X1_anew (D : va_G) (k : KK) (o : Nat) (r : Nat → Nat) (w : Value) (I : Nat → Int32) (L : Nat → Int64) (A : Nat → Prop) : Array Value → State → Outcome → State → Prop := va_Qv (fun (u : Int32 × Int32) => u = f_X1_anew) (bx D (fun u => [(o, eRM r w (upd (upd I 4 u.1) 6 u.2) L)]) A) A
abbrev rm_X1_anew : Room := { frames := 1, cells := 0, slots := 0, locals := 40 }
theorem xo_X1_anew : xok yX1_anew 0 := by unfold xok; decide +kernel
set_option maxHeartbeats 8000000 in
theorem m_X1_anew (l : Launch) (D : va_G) (k : KK) (sz : Nat) (o : Nat) (r : Nat → Nat) (w : Value) (I : Nat → Int32) (L : Nat → Int64)  : Met l yX1_anew (ws_ yX1_anew cX1_anew 1 none) rm_X1_anew (pcx D k [.ref o] sz [(o, eRM r w I L)] (fun _ => True)) (q_X1_anew D k o r w I L (va_A [(o, eRM r w I L)] sz)) 0 0 (va_A [(o, eRM r w I L)] sz) := by
  refine Met.start (Qc := q_X1_anew D k o r w I L) (by decide) (Nat.le_of_ble_eq_true rfl) ?_
  intro p e s m below meth c A hx hb hr hlocks hml hown hin hts hg hP hD hA hAn hS hY hsz ls hl
  have hown : s.vm.findClass RX1 = some m.cls := hown
  have hl : lv_has ls 1 [(0, .ref o)] := hl
  refine lv_aload_n hx hb dX1_anew_0 rfl (lv_at hl 0 rfl) ?_
  refine lv_iconst (v := 0) hx hb dX1_anew_1 ci_0 ?_
  refine va_put (D := D) (ci := 0) (v := .int 0) (C := RX1) (T := TX1) (N := 29) hx hb hts in_X1 tyX1 tyX1_ok nmX1 hown hg.1 hP hD hS 0 rfl rfl 4 (Nat.le_of_ble_eq_true rfl) (hts _ q368) (fun _ h9 => h9) rfl ftX1_4 rfl rfl (Nat.le_of_ble_eq_true rfl) dX1_anew_2 (fun H locs hP hD hS => ?_)
  replace hP : va_P D vwCl [(o, eRM r w (upd I 4 0) L)] H := hP
  replace hD : va_D A [(o, eRM r w (upd I 4 0) L)] := hD
  refine lv_aload_n hx hb dX1_anew_5 rfl (lv_at hl 0 rfl) ?_
  refine lv_iconst (v := (-1)) hx hb dX1_anew_6 ci_m1 ?_
  refine va_put (D := D) (ci := 0) (v := .int (-1)) (C := RX1) (T := TX1) (N := 29) hx hb hts in_X1 tyX1 tyX1_ok nmX1 hown hg.1 hP hD hS 0 rfl rfl 6 (Nat.le_of_ble_eq_true rfl) (hts _ q370) (fun _ h9 => h9) rfl ftX1_6 rfl rfl (Nat.le_of_ble_eq_true rfl) dX1_anew_7 (fun H locs hP hD hS => ?_)
  replace hP : va_P D vwCl [(o, eRM r w (upd (upd I 4 0) 6 (-1)) L)] H := hP
  replace hD : va_D A [(o, eRM r w (upd (upd I 4 0) 6 (-1)) L)] := hD
  exact xret_v hx hb hr hlocks (Nat.le_of_ble_eq_true rfl) (Nat.le_of_ble_eq_true rfl) hS.2.2 dX1_anew_10 (fun t ht => ⟨⟨(0, (-1)), rfl, rfl, by rw [ht]; exact hP, hD⟩, hS.F ht⟩)

def f_X1_no (why : Int32) : Int32 × Int32 :=
  ((-1), why)
abbrev q_X1_no (D : va_G) (k : KK) (o : Nat) (r : Nat → Nat) (w : Value) (I : Nat → Int32) (L : Nat → Int64) (why : Int32) (A : Nat → Prop) : Array Value → State → Outcome → State → Prop := va_Qi (fun (r_ : Int32) (u : Int32 × Int32) => r_ = u.1 ∧ u = f_X1_no why) (bx D (fun u => [(o, eRM r w (upd I 4 u.2) L)]) A) A
abbrev rm_X1_no : Room := { frames := 1, cells := 0, slots := 0, locals := 40 }
theorem xo_X1_no : xok yX1_no 1 := by unfold xok; decide +kernel
set_option maxHeartbeats 8000000 in
theorem m_X1_no (l : Launch) (D : va_G) (k : KK) (sz : Nat) (o : Nat) (r : Nat → Nat) (w : Value) (I : Nat → Int32) (L : Nat → Int64) (why : Int32)  : Met l yX1_no (ws_ yX1_no cX1_no 2 (some .int)) rm_X1_no (pcx D k [.ref o, .int why] sz [(o, eRM r w I L)] (fun _ => True)) (q_X1_no D k o r w I L why (va_A [(o, eRM r w I L)] sz)) 0 0 (va_A [(o, eRM r w I L)] sz) := by
  refine Met.start (Qc := q_X1_no D k o r w I L why) (by decide) (Nat.le_of_ble_eq_true rfl) ?_
  intro p e s m below meth c A hx hb hr hlocks hml hown hin hts hg hP hD hA hAn hS hY hsz ls hl
  have hown : s.vm.findClass RX1 = some m.cls := hown
  have hl : lv_has ls 2 [(0, .ref o), (1, .int why)] := hl
  refine lv_aload_n hx hb dX1_no_0 rfl (lv_at hl 0 rfl) ?_
  refine lv_iload_n hx hb dX1_no_1 rfl (lv_at hl 1 rfl) ?_
  refine va_put (D := D) (ci := 0) (v := .int why) (C := RX1) (T := TX1) (N := 29) hx hb hts in_X1 tyX1 tyX1_ok nmX1 hown hg.1 hP hD hS 0 rfl rfl 4 (Nat.le_of_ble_eq_true rfl) (hts _ q368) (fun _ h9 => h9) rfl ftX1_4 rfl rfl (Nat.le_of_ble_eq_true rfl) dX1_no_2 (fun H locs hP hD hS => ?_)
  replace hP : va_P D vwCl [(o, eRM r w (upd I 4 why) L)] H := hP
  replace hD : va_D A [(o, eRM r w (upd I 4 why) L)] := hD
  refine lv_iconst (v := (-1)) hx hb dX1_no_5 ci_m1 ?_
  exact xret_i hx hb hr hlocks (Nat.le_of_ble_eq_true rfl) (Nat.le_of_ble_eq_true rfl) hS.2.2 dX1_no_6 (fun t ht => ⟨⟨(-1), ((-1), why), rfl, ⟨rfl, rfl⟩, by rw [ht]; exact hP, hD⟩, hS.F ht⟩)

def f_X1_yes_j1 (why : Int32) : (Int32) :=
  if why = 0 then
    1
  else
    0
def f_X1_yes (why : Int32) : Int32 × Int32 × Int32 :=
  let u1 := f_X1_anew
  let v4 := f_X1_yes_j1 why
  (v4, why, u1.2)
abbrev q_X1_yes (D : va_G) (k : KK) (o : Nat) (r : Nat → Nat) (w : Value) (I : Nat → Int32) (L : Nat → Int64) (why : Int32) (A : Nat → Prop) : Array Value → State → Outcome → State → Prop := va_Qi (fun (r_ : Int32) (u : Int32 × Int32 × Int32) => r_ = u.1 ∧ u = f_X1_yes why ∧ (r_ = 0 ∨ r_ = 1)) (bx D (fun u => [(o, eRM r w (upd (upd I 4 u.2.1) 6 u.2.2) L)]) A) A
abbrev rm_X1_yes : Room := { frames := 2, cells := 0, slots := 0, locals := 80 }
theorem xo_X1_yes : xok yX1_yes 1 := by unfold xok; decide +kernel
set_option maxHeartbeats 8000000 in
theorem m_X1_yes (l : Launch) (D : va_G) (k : KK) (sz : Nat) (o : Nat) (r : Nat → Nat) (w : Value) (I : Nat → Int32) (L : Nat → Int64) (why : Int32)  : Met l yX1_yes (ws_ yX1_yes cX1_yes 2 (some .boolean)) rm_X1_yes (pcx D k [.ref o, .int why] sz [(o, eRM r w I L)] (fun _ => True)) (q_X1_yes D k o r w I L why (va_A [(o, eRM r w I L)] sz)) 0 0 (va_A [(o, eRM r w I L)] sz) := by
  refine Met.start (Qc := q_X1_yes D k o r w I L why) (by decide) (Nat.le_of_ble_eq_true rfl) ?_
  intro p e s m below meth c A hx hb hr hlocks hml hown hin hts hg hP hD hA hAn hS hY hsz ls hl
  have hown : s.vm.findClass RX1 = some m.cls := hown
  have hl : lv_has ls 2 [(0, .ref o), (1, .int why)] := hl
  refine lv_aload_n hx hb dX1_yes_0 rfl (lv_at hl 0 rfl) ?_
  refine xc_v (wc := [(o, eRM r w I L)]) (wr := []) hP hD hS hA [0] [] rfl rfl rfl (by decide) (xrV ⟨hx, hb, hml, hown, hts⟩ hg (m_X1_anew l D k _ o r w I L) hP hD [0] rfl rfl trivial (ci := 0) (q0 := 0) rfl rfl rfl q465 q467 qs2 q83 q468 xo_X1_anew ⟨rfl, rfl⟩ ⟨Nat.le_of_ble_eq_true rfl, Nat.le_of_ble_eq_true rfl⟩ hl.1 (Nat.le_of_ble_eq_true rfl) dX1_yes_1 ⟨Nat.le_of_ble_eq_true rfl, Nat.le_of_ble_eq_true rfl⟩ rfl) (fun u1 H locs hw hP hD hS hk => ?_)
  have eu1 := hw
  replace hP : va_P D vwCl [(o, eRM r w (upd (upd I 4 u1.1) 6 u1.2) L)] H := hP.sub [0] rfl
  replace hD : va_D A [(o, eRM r w (upd (upd I 4 u1.1) 6 u1.2) L)] := hD.sub [0] (by decide) rfl
  refine lv_aload_n hx hb dX1_yes_4 rfl (lv_at hl 0 rfl) ?_
  refine lv_iload_n hx hb dX1_yes_5 rfl (lv_at hl 1 rfl) ?_
  refine va_put (D := D) (ci := 0) (v := .int why) (C := RX1) (T := TX1) (N := 29) hx hb hts in_X1 tyX1 tyX1_ok nmX1 hown hg.1 hP hD hS 0 rfl rfl 4 (Nat.le_of_ble_eq_true rfl) (hts _ q368) (fun _ h9 => h9) rfl ftX1_4 rfl rfl (Nat.le_of_ble_eq_true rfl) dX1_yes_6 (fun H locs hP hD hS => ?_)
  replace hP : va_P D vwCl [(o, eRM r w (upd (upd I 6 u1.2) 4 why) L)] H := hP
  replace hD : va_D A [(o, eRM r w (upd (upd I 6 u1.2) 4 why) L)] := hD
  refine lv_iload_n hx hb dX1_yes_9 rfl (lv_at hl 1 rfl) ?_
  have Jn1 : ∀ (v4 : (Int32)) (H : Heap) (locs : List Loc) (ls : Array Slot), v4 = f_X1_yes_j1 why → (v4 = 0 ∨ v4 = 1) → va_P D vwCl [(o, eRM r w (upd (upd I 6 u1.2) 4 why) L)] H → va_D A [(o, eRM r w (upd (upd I 6 u1.2) 4 why) L)] → va_S A s.heap H locs → lv_has ls 2 [(0, .ref o), (1, .int why)] → W p l e rm_X1_yes s m ([.ref o, .int why] : List Value).toArray below meth c H locs 0 0 (MQ below (q_X1_yes D k o r w I L why A) ([.ref o, .int why] : List Value).toArray s 0 0 A) (F0 m 18 ls [.int v4]) := by
    intro v4 H locs ls ev4 bv4_0 hP hD hS hl
    exact xret_z hx hb hr hlocks (Nat.le_of_ble_eq_true rfl) (Nat.le_of_ble_eq_true rfl) hS.2.2 dX1_yes_18 bv4_0 (fun t ht => ⟨⟨v4, (v4, why, u1.2), rfl, ⟨rfl, (by subst ev4; subst eu1; exact rfl), bv4_0⟩, by rw [ht]; exact hP, hD⟩, hS.F ht⟩)
  refine lv_if_ne (tgt := 17) hx hb dX1_yes_10 (by decide) (fun c5 => ?_) (fun c5 => ?_)
  · refine lv_iconst (v := 0) hx hb dX1_yes_17 ci_0 ?_
    exact Jn1 0 _ _ _ (by exact Eq.symm (Eq.trans (if_neg c5) (rfl))) (Or.inl rfl) hP hD hS (lv_sub hl [0, 1] rfl)
  · refine lv_iconst (v := 1) hx hb dX1_yes_13 ci_1 ?_
    refine lv_goto (tgt := 18) hx hb dX1_yes_14 (by decide) ?_
    exact Jn1 1 _ _ _ (by exact Eq.symm (Eq.trans (if_pos c5) (rfl))) (Or.inr rfl) hP hD hS (lv_sub hl [0, 1] rfl)

def f_X1_fault (I : Nat → Int32) : Int32 :=
  (I 5)
abbrev q_X1_fault (D : va_G) (k : KK) (o : Nat) (r : Nat → Nat) (w : Value) (I : Nat → Int32) (L : Nat → Int64) (A : Nat → Prop) : Array Value → State → Outcome → State → Prop := va_Qi (fun (r_ : Int32) (u : Int32) => r_ = u ∧ u = f_X1_fault I) (bx D (fun u => [(o, eRM r w I L)]) A) A
abbrev rm_X1_fault : Room := { frames := 1, cells := 0, slots := 0, locals := 40 }
theorem xo_X1_fault : xok yX1_fault 0 := by unfold xok; decide +kernel
set_option maxHeartbeats 8000000 in
theorem m_X1_fault (l : Launch) (D : va_G) (k : KK) (sz : Nat) (o : Nat) (r : Nat → Nat) (w : Value) (I : Nat → Int32) (L : Nat → Int64)  : Met l yX1_fault (ws_ yX1_fault cX1_fault 1 (some .int)) rm_X1_fault (pcx D k [.ref o] sz [(o, eRM r w I L)] (fun _ => True)) (q_X1_fault D k o r w I L (va_A [(o, eRM r w I L)] sz)) 0 0 (va_A [(o, eRM r w I L)] sz) := by
  refine Met.start (Qc := q_X1_fault D k o r w I L) (by decide) (Nat.le_of_ble_eq_true rfl) ?_
  intro p e s m below meth c A hx hb hr hlocks hml hown hin hts hg hP hD hA hAn hS hY hsz ls hl
  have hown : s.vm.findClass RX1 = some m.cls := hown
  have hl : lv_has ls 1 [(0, .ref o)] := hl
  refine lv_aload_n hx hb dX1_fault_0 rfl (lv_at hl 0 rfl) ?_
  refine va_get (D := D) (ci := 0) (v := .int (I 5)) (C := RX1) (T := TX1) (N := 29) hx hb hts in_X1 hown hg.1 hP 0 rfl rfl 5 (Nat.le_of_ble_eq_true rfl) (hts _ q369) (fun _ h9 => h9) rfl dX1_fault_1 ?_
  exact xret_i hx hb hr hlocks (Nat.le_of_ble_eq_true rfl) (Nat.le_of_ble_eq_true rfl) hS.2.2 dX1_fault_4 (fun t ht => ⟨⟨(I 5), (I 5), rfl, ⟨rfl, rfl⟩, by rw [ht]; exact hP, hD⟩, hS.F ht⟩)

def f_X1_where_j1 (I : Nat → Int32) : (Int32) :=
  if (I 4) = 4 then
    (I 6)
  else
    (-1)
def f_X1_where (I : Nat → Int32) : Int32 :=
  let v3 := f_X1_where_j1 I
  v3
abbrev q_X1_where (D : va_G) (k : KK) (o : Nat) (r : Nat → Nat) (w : Value) (I : Nat → Int32) (L : Nat → Int64) (A : Nat → Prop) : Array Value → State → Outcome → State → Prop := va_Qi (fun (r_ : Int32) (u : Int32) => r_ = u ∧ u = f_X1_where I) (bx D (fun u => [(o, eRM r w I L)]) A) A
abbrev rm_X1_where : Room := { frames := 1, cells := 0, slots := 0, locals := 40 }
theorem xo_X1_where : xok yX1_where 0 := by unfold xok; decide +kernel
set_option maxHeartbeats 8000000 in
theorem m_X1_where (l : Launch) (D : va_G) (k : KK) (sz : Nat) (o : Nat) (r : Nat → Nat) (w : Value) (I : Nat → Int32) (L : Nat → Int64)  : Met l yX1_where (ws_ yX1_where cX1_where 1 (some .int)) rm_X1_where (pcx D k [.ref o] sz [(o, eRM r w I L)] (fun _ => True)) (q_X1_where D k o r w I L (va_A [(o, eRM r w I L)] sz)) 0 0 (va_A [(o, eRM r w I L)] sz) := by
  refine Met.start (Qc := q_X1_where D k o r w I L) (by decide) (Nat.le_of_ble_eq_true rfl) ?_
  intro p e s m below meth c A hx hb hr hlocks hml hown hin hts hg hP hD hA hAn hS hY hsz ls hl
  have hown : s.vm.findClass RX1 = some m.cls := hown
  have hl : lv_has ls 1 [(0, .ref o)] := hl
  refine lv_aload_n hx hb dX1_where_0 rfl (lv_at hl 0 rfl) ?_
  refine va_get (D := D) (ci := 0) (v := .int (I 4)) (C := RX1) (T := TX1) (N := 29) hx hb hts in_X1 hown hg.1 hP 0 rfl rfl 4 (Nat.le_of_ble_eq_true rfl) (hts _ q368) (fun _ h9 => h9) rfl dX1_where_1 ?_
  refine lv_iconst (v := 4) hx hb dX1_where_4 ci_4 ?_
  have Jn1 : ∀ (v3 : (Int32)) (H : Heap) (locs : List Loc) (ls : Array Slot), v3 = f_X1_where_j1 I → va_P D vwCl [(o, eRM r w I L)] H → va_D A [(o, eRM r w I L)] → va_S A s.heap H locs → lv_has ls 1 [(0, .ref o)] → W p l e rm_X1_where s m ([.ref o] : List Value).toArray below meth c H locs 0 0 (MQ below (q_X1_where D k o r w I L A) ([.ref o] : List Value).toArray s 0 0 A) (F0 m 16 ls [.int v3]) := by
    intro v3 H locs ls ev3 hP hD hS hl
    exact xret_i hx hb hr hlocks (Nat.le_of_ble_eq_true rfl) (Nat.le_of_ble_eq_true rfl) hS.2.2 dX1_where_16 (fun t ht => ⟨⟨v3, v3, rfl, ⟨rfl, (by subst ev3; exact rfl)⟩, by rw [ht]; exact hP, hD⟩, hS.F ht⟩)
  refine lv_icmp_ne (tgt := 15) hx hb dX1_where_5 (by decide) (fun c4 => ?_) (fun c4 => ?_)
  · refine lv_iconst (v := (-1)) hx hb dX1_where_15 ci_m1 ?_
    exact Jn1 (-1) _ _ _ (by exact Eq.symm (Eq.trans (if_neg c4) (rfl))) hP hD hS (lv_sub hl [0] rfl)
  · refine lv_aload_n hx hb dX1_where_8 rfl (lv_at hl 0 rfl) ?_
    refine va_get (D := D) (ci := 0) (v := .int (I 6)) (C := RX1) (T := TX1) (N := 29) hx hb hts in_X1 hown hg.1 hP 0 rfl rfl 6 (Nat.le_of_ble_eq_true rfl) (hts _ q370) (fun _ h9 => h9) rfl dX1_where_9 ?_
    refine lv_goto (tgt := 16) hx hb dX1_where_12 (by decide) ?_
    exact Jn1 (I 6) _ _ _ (by exact Eq.symm (Eq.trans (if_pos c4) (rfl))) hP hD hS (lv_sub hl [0] rfl)

def f_X1_trouble (I : Nat → Int32) : Int32 :=
  (I 4)
abbrev q_X1_trouble (D : va_G) (k : KK) (o : Nat) (r : Nat → Nat) (w : Value) (I : Nat → Int32) (L : Nat → Int64) (A : Nat → Prop) : Array Value → State → Outcome → State → Prop := va_Qi (fun (r_ : Int32) (u : Int32) => r_ = u ∧ u = f_X1_trouble I) (bx D (fun u => [(o, eRM r w I L)]) A) A
abbrev rm_X1_trouble : Room := { frames := 1, cells := 0, slots := 0, locals := 40 }
theorem xo_X1_trouble : xok yX1_trouble 0 := by unfold xok; decide +kernel
set_option maxHeartbeats 8000000 in
theorem m_X1_trouble (l : Launch) (D : va_G) (k : KK) (sz : Nat) (o : Nat) (r : Nat → Nat) (w : Value) (I : Nat → Int32) (L : Nat → Int64)  : Met l yX1_trouble (ws_ yX1_trouble cX1_trouble 1 (some .int)) rm_X1_trouble (pcx D k [.ref o] sz [(o, eRM r w I L)] (fun _ => True)) (q_X1_trouble D k o r w I L (va_A [(o, eRM r w I L)] sz)) 0 0 (va_A [(o, eRM r w I L)] sz) := by
  refine Met.start (Qc := q_X1_trouble D k o r w I L) (by decide) (Nat.le_of_ble_eq_true rfl) ?_
  intro p e s m below meth c A hx hb hr hlocks hml hown hin hts hg hP hD hA hAn hS hY hsz ls hl
  have hown : s.vm.findClass RX1 = some m.cls := hown
  have hl : lv_has ls 1 [(0, .ref o)] := hl
  refine lv_aload_n hx hb dX1_trouble_0 rfl (lv_at hl 0 rfl) ?_
  refine va_get (D := D) (ci := 0) (v := .int (I 4)) (C := RX1) (T := TX1) (N := 29) hx hb hts in_X1 hown hg.1 hP 0 rfl rfl 4 (Nat.le_of_ble_eq_true rfl) (hts _ q368) (fun _ h9 => h9) rfl dX1_trouble_1 ?_
  exact xret_i hx hb hr hlocks (Nat.le_of_ble_eq_true rfl) (Nat.le_of_ble_eq_true rfl) hS.2.2 dX1_trouble_4 (fun t ht => ⟨⟨(I 4), (I 4), rfl, ⟨rfl, rfl⟩, by rw [ht]; exact hP, hD⟩, hS.F ht⟩)
