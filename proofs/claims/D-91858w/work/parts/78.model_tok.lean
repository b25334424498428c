set_option maxRecDepth 100000
def f_X8_byteAt_j1 (I : Nat → Int32) (tp : Nat → Int32) (x : Int32) (xj : Nat) : (Int32) :=
  if (I 7) ≤ x then
    (-1)
  else
    ((tp xj) &&& 255)
def f_X8_byteAt (I : Nat → Int32) (tp : Nat → Int32) (x : Int32) (xj : Nat) : Int32 :=
  let v3 := f_X8_byteAt_j1 I tp x xj
  v3
abbrev q_X8_byteAt (D : va_G) (k : KK) (o : Nat) (r : Nat → Nat) (mv : Value) (fr : Value) (I : Nat → Int32) (L : Nat → Int64) (tp : Nat → Int32) (x : Int32) (xj : Nat) (zj : Nat) (A : Nat → Prop) : Array Value → State → Outcome → State → Prop := va_Qi (fun (r_ : Int32) (u : Int32) => r_ = u ∧ u = f_X8_byteAt I tp x xj) (bx D (fun u => [(o, eMM r mv fr I L), ((r 5), aB k 700 tp)]) A) A
abbrev rm_X8_byteAt : Room := { frames := 1, cells := 0, slots := 0, locals := 40 }
theorem xo_X8_byteAt : xok yX8_byteAt 1 := by unfold xok; decide +kernel
set_option maxHeartbeats 8000000 in
theorem m_X8_byteAt (l : Launch) (D : va_G) (k : KK) (sz : Nat) (o : Nat) (r : Nat → Nat) (mv : Value) (fr : Value) (I : Nat → Int32) (L : Nat → Int64) (tp : Nat → Int32) (x : Int32) (xj : Nat) (zj : Nat) (hxj : x = nI xj) (hxb : xj < 2 ^ 31) (hzj : I 7 = nI zj) (hz7 : zj ≤ 700) : Met l yX8_byteAt (ws_ yX8_byteAt cX8_byteAt 2 (some .int)) rm_X8_byteAt (pcx D k [.ref o, .int x] sz [(o, eMM r mv fr I L), ((r 5), aB k 700 tp)] (fun _ => True)) (q_X8_byteAt D k o r mv fr I L tp x xj zj (va_A [(o, eMM r mv fr I L), ((r 5), aB k 700 tp)] sz)) 0 0 (va_A [(o, eMM r mv fr I L), ((r 5), aB k 700 tp)] sz) := by
  refine Met.start (Qc := q_X8_byteAt D k o r mv fr I L tp x xj zj) (by decide) (Nat.le_of_ble_eq_true rfl) ?_
  intro p e s m below meth c A hx hb hr hlocks hml hown hin hts hg hP hD hA hAn hS hY hsz ls hl
  have hown : s.vm.findClass RX8 = some m.cls := hown
  have hl : lv_has ls 2 [(0, .ref o), (1, .int x)] := hl
  refine lv_iload_n hx hb dX8_byteAt_0 rfl (lv_at hl 1 rfl) ?_
  refine lv_aload_n hx hb dX8_byteAt_1 rfl (lv_at hl 0 rfl) ?_
  refine va_get (D := D) (ci := 10) (v := .int (I 7)) (C := RX8) (T := TX8) (N := 37) hx hb hts in_X8 hown hg.1 hP 0 rfl rfl 7 (Nat.le_of_ble_eq_true rfl) (hts _ q1148) (fun _ h9 => h9) rfl dX8_byteAt_2 ?_
  have Jn1 : ∀ (v3 : (Int32)) (H : Heap) (locs : List Loc) (ls : Array Slot), v3 = f_X8_byteAt_j1 I tp x xj → va_P D vwCl [(o, eMM r mv fr I L), ((r 5), aB k 700 tp)] H → va_D A [(o, eMM r mv fr I L), ((r 5), aB k 700 tp)] → va_S A s.heap H locs → lv_has ls 2 [(0, .ref o), (1, .int x)] → W p l e rm_X8_byteAt s m ([.ref o, .int x] : List Value).toArray below meth c H locs 0 0 (MQ below (q_X8_byteAt D k o r mv fr I L tp x xj zj A) ([.ref o, .int x] : List Value).toArray s 0 0 A) (F0 m 22 ls [.int v3]) := by
    intro v3 H locs ls ev3 hP hD hS hl
    exact xret_i hx hb hr hlocks (Nat.le_of_ble_eq_true rfl) (Nat.le_of_ble_eq_true rfl) hS.2.2 dX8_byteAt_22 (fun t ht => ⟨⟨v3, v3, rfl, ⟨rfl, (by subst ev3; exact rfl)⟩, by rw [ht]; exact hP, hD⟩, hS.F ht⟩)
  refine lv_icmp_ge (tgt := 21) hx hb dX8_byteAt_5 (by decide) (fun c4 => ?_) (fun c4 => ?_)
  · refine lv_iconst (v := (-1)) hx hb dX8_byteAt_21 ci_m1 ?_
    exact Jn1 (-1) _ _ _ (by exact Eq.symm (Eq.trans (if_pos c4) (rfl))) hP hD hS (lv_sub hl [0, 1] rfl)
  · have hlt := ba_lt hxj hzj hxb c4
    refine lv_aload_n hx hb dX8_byteAt_8 rfl (lv_at hl 0 rfl) ?_
    refine va_get (D := D) (ci := 10) (v := .ref (r 5)) (C := RX8) (T := TX8) (N := 37) hx hb hts in_X8 hown hg.1 hP 0 rfl rfl 5 (Nat.le_of_ble_eq_true rfl) (hts _ q1146) (fun _ h9 => h9) rfl dX8_byteAt_9 ?_
    refine lv_iload_n hx hb dX8_byteAt_12 rfl (lv_at hl 1 rfl) ?_
    refine xa_bald hx hb hg hP 1 rfl hxj (by first | omega | exact Nat.lt_of_lt_of_le (Nat.mod_lt _ (by omega)) (by omega)) (by omega) dX8_byteAt_13 ?_
    refine lv_sipush (v := 255) hx hb dX8_byteAt_14 cs_255 ?_
    refine lv_iand hx hb dX8_byteAt_17 ?_
    refine lv_goto (tgt := 22) hx hb dX8_byteAt_18 (by decide) ?_
    exact Jn1 ((tp xj) &&& 255) _ _ _ (by exact Eq.symm (Eq.trans (if_neg c4) (rfl))) hP hD hS (lv_sub hl [0, 1] rfl)

def f_X8_wrongHere (I : Nat → Int32) (x : Int32) (y : Int32) : Int32 × Int32 × Int32 :=
  if (I 9) = 5 then
    ((I 9), (I 13), (I 14))
  else
    (5, x, y)
abbrev q_X8_wrongHere (D : va_G) (k : KK) (o : Nat) (r : Nat → Nat) (mv : Value) (fr : Value) (I : Nat → Int32) (L : Nat → Int64) (x : Int32) (y : Int32) (A : Nat → Prop) : Array Value → State → Outcome → State → Prop := va_Qv (fun (u : Int32 × Int32 × Int32) => u = f_X8_wrongHere I x y) (bx D (fun u => [(o, eMM r mv fr (upd (upd (upd I 9 u.1) 13 u.2.1) 14 u.2.2) L)]) A) A
abbrev rm_X8_wrongHere : Room := { frames := 1, cells := 0, slots := 0, locals := 40 }
theorem xo_X8_wrongHere : xok yX8_wrongHere 2 := by unfold xok; decide +kernel
set_option maxHeartbeats 8000000 in
theorem m_X8_wrongHere (l : Launch) (D : va_G) (k : KK) (sz : Nat) (o : Nat) (r : Nat → Nat) (mv : Value) (fr : Value) (I : Nat → Int32) (L : Nat → Int64) (x : Int32) (y : Int32)  : Met l yX8_wrongHere (ws_ yX8_wrongHere cX8_wrongHere 3 none) rm_X8_wrongHere (pcx D k [.ref o, .int x, .int y] sz [(o, eMM r mv fr I L)] (fun _ => True)) (q_X8_wrongHere D k o r mv fr I L x y (va_A [(o, eMM r mv fr I L)] sz)) 0 0 (va_A [(o, eMM r mv fr I L)] sz) := by
  refine Met.start (Qc := q_X8_wrongHere D k o r mv fr I L x y) (by decide) (Nat.le_of_ble_eq_true rfl) ?_
  intro p e s m below meth c A hx hb hr hlocks hml hown hin hts hg hP hD hA hAn hS hY hsz ls hl
  have hown : s.vm.findClass RX8 = some m.cls := hown
  have hl : lv_has ls 3 [(0, .ref o), (1, .int x), (2, .int y)] := hl
  refine lv_aload_n hx hb dX8_wrongHere_0 rfl (lv_at hl 0 rfl) ?_
  refine va_get (D := D) (ci := 10) (v := .int (I 9)) (C := RX8) (T := TX8) (N := 37) hx hb hts in_X8 hown hg.1 hP 0 rfl rfl 9 (Nat.le_of_ble_eq_true rfl) (hts _ q1150) (fun _ h9 => h9) rfl dX8_wrongHere_1 ?_
  refine lv_iconst (v := 5) hx hb dX8_wrongHere_4 ci_5 ?_
  refine lv_icmp_ne (tgt := 9) hx hb dX8_wrongHere_5 (by decide) (fun c1 => ?_) (fun c1 => ?_)
  · refine lv_aload_n hx hb dX8_wrongHere_9 rfl (lv_at hl 0 rfl) ?_
    refine lv_iload_n hx hb dX8_wrongHere_10 rfl (lv_at hl 1 rfl) ?_
    refine va_put (D := D) (ci := 10) (v := .int x) (C := RX8) (T := TX8) (N := 37) hx hb hts in_X8 tyX8 tyX8_ok nmX8 hown hg.1 hP hD hS 0 rfl rfl 13 (Nat.le_of_ble_eq_true rfl) (hts _ q1154) (fun _ h9 => h9) rfl ftX8_13 rfl rfl (Nat.le_of_ble_eq_true rfl) dX8_wrongHere_11 (fun H locs hP hD hS => ?_)
    replace hP : va_P D vwCl [(o, eMM r mv fr (upd I 13 x) L)] H := hP
    replace hD : va_D A [(o, eMM r mv fr (upd I 13 x) L)] := hD
    refine lv_aload_n hx hb dX8_wrongHere_14 rfl (lv_at hl 0 rfl) ?_
    refine lv_iload_n hx hb dX8_wrongHere_15 rfl (lv_at hl 2 rfl) ?_
    refine va_put (D := D) (ci := 10) (v := .int y) (C := RX8) (T := TX8) (N := 37) hx hb hts in_X8 tyX8 tyX8_ok nmX8 hown hg.1 hP hD hS 0 rfl rfl 14 (Nat.le_of_ble_eq_true rfl) (hts _ q1155) (fun _ h9 => h9) rfl ftX8_14 rfl rfl (Nat.le_of_ble_eq_true rfl) dX8_wrongHere_16 (fun H locs hP hD hS => ?_)
    replace hP : va_P D vwCl [(o, eMM r mv fr (upd (upd I 13 x) 14 y) L)] H := hP
    replace hD : va_D A [(o, eMM r mv fr (upd (upd I 13 x) 14 y) L)] := hD
    refine lv_aload_n hx hb dX8_wrongHere_19 rfl (lv_at hl 0 rfl) ?_
    refine lv_iconst (v := 5) hx hb dX8_wrongHere_20 ci_5 ?_
    refine va_put (D := D) (ci := 10) (v := .int 5) (C := RX8) (T := TX8) (N := 37) hx hb hts in_X8 tyX8 tyX8_ok nmX8 hown hg.1 hP hD hS 0 rfl rfl 9 (Nat.le_of_ble_eq_true rfl) (hts _ q1150) (fun _ h9 => h9) rfl ftX8_9 rfl rfl (Nat.le_of_ble_eq_true rfl) dX8_wrongHere_21 (fun H locs hP hD hS => ?_)
    replace hP : va_P D vwCl [(o, eMM r mv fr (upd (upd (upd I 13 x) 14 y) 9 5) L)] H := hP
    replace hD : va_D A [(o, eMM r mv fr (upd (upd (upd I 13 x) 14 y) 9 5) L)] := hD
    exact xret_v hx hb hr hlocks (Nat.le_of_ble_eq_true rfl) (Nat.le_of_ble_eq_true rfl) hS.2.2 dX8_wrongHere_24 (fun t ht => ⟨⟨(5, x, y), rfl, (by exact Eq.symm (Eq.trans (if_neg c1) (rfl))), by rw [ht]; exact hP, hD⟩, hS.F ht⟩)
  · exact xret_v hx hb hr hlocks (Nat.le_of_ble_eq_true rfl) (Nat.le_of_ble_eq_true rfl) hS.2.2 dX8_wrongHere_8 (fun t ht => ⟨⟨((I 9), (I 13), (I 14)), rfl, (by exact Eq.symm (Eq.trans (if_pos c1) (rfl))), by rw [ht]; exact hP, hD⟩, hS.F ht⟩)

def f_X8_wrong (I : Nat → Int32) (x : Int32) : Int32 × Int32 × Int32 :=
  let u1 := f_X8_wrongHere I x (I 10)
  (u1.1, u1.2.1, u1.2.2)
abbrev q_X8_wrong (D : va_G) (k : KK) (o : Nat) (r : Nat → Nat) (mv : Value) (fr : Value) (I : Nat → Int32) (L : Nat → Int64) (x : Int32) (A : Nat → Prop) : Array Value → State → Outcome → State → Prop := va_Qv (fun (u : Int32 × Int32 × Int32) => u = f_X8_wrong I x) (bx D (fun u => [(o, eMM r mv fr (upd (upd (upd I 9 u.1) 13 u.2.1) 14 u.2.2) L)]) A) A
abbrev rm_X8_wrong : Room := { frames := 2, cells := 0, slots := 0, locals := 80 }
theorem xo_X8_wrong : xok yX8_wrong 1 := by unfold xok; decide +kernel
set_option maxHeartbeats 8000000 in
theorem m_X8_wrong (l : Launch) (D : va_G) (k : KK) (sz : Nat) (o : Nat) (r : Nat → Nat) (mv : Value) (fr : Value) (I : Nat → Int32) (L : Nat → Int64) (x : Int32)  : Met l yX8_wrong (ws_ yX8_wrong cX8_wrong 2 none) rm_X8_wrong (pcx D k [.ref o, .int x] sz [(o, eMM r mv fr I L)] (fun _ => True)) (q_X8_wrong D k o r mv fr I L x (va_A [(o, eMM r mv fr I L)] sz)) 0 0 (va_A [(o, eMM r mv fr I L)] sz) := by
  refine Met.start (Qc := q_X8_wrong D k o r mv fr I L x) (by decide) (Nat.le_of_ble_eq_true rfl) ?_
  intro p e s m below meth c A hx hb hr hlocks hml hown hin hts hg hP hD hA hAn hS hY hsz ls hl
  have hown : s.vm.findClass RX8 = some m.cls := hown
  have hl : lv_has ls 2 [(0, .ref o), (1, .int x)] := hl
  refine lv_aload_n hx hb dX8_wrong_0 rfl (lv_at hl 0 rfl) ?_
  refine lv_iload_n hx hb dX8_wrong_1 rfl (lv_at hl 1 rfl) ?_
  refine lv_aload_n hx hb dX8_wrong_2 rfl (lv_at hl 0 rfl) ?_
  refine va_get (D := D) (ci := 10) (v := .int (I 10)) (C := RX8) (T := TX8) (N := 37) hx hb hts in_X8 hown hg.1 hP 0 rfl rfl 10 (Nat.le_of_ble_eq_true rfl) (hts _ q1151) (fun _ h9 => h9) rfl dX8_wrong_3 ?_
  refine xc_v (wc := [(o, eMM r mv fr I L)]) (wr := []) hP hD hS hA [0] [] rfl rfl rfl (by decide) (xrV ⟨hx, hb, hml, hown, hts⟩ hg (m_X8_wrongHere l D k _ o r mv fr I L x (I 10)) hP hD [0] rfl rfl trivial (ci := 10) (q0 := 0) rfl rfl rfl q1413 q1415 qs48 q93 q1416 xo_X8_wrongHere ⟨rfl, rfl⟩ ⟨Nat.le_of_ble_eq_true rfl, Nat.le_of_ble_eq_true rfl⟩ hl.1 (Nat.le_of_ble_eq_true rfl) dX8_wrong_6 ⟨Nat.le_of_ble_eq_true rfl, Nat.le_of_ble_eq_true rfl⟩ rfl) (fun u1 H locs hw hP hD hS hk => ?_)
  have eu1 := hw
  replace hP : va_P D vwCl [(o, eMM r mv fr (upd (upd (upd I 9 u1.1) 13 u1.2.1) 14 u1.2.2) L)] H := hP.sub [0] rfl
  replace hD : va_D A [(o, eMM r mv fr (upd (upd (upd I 9 u1.1) 13 u1.2.1) 14 u1.2.2) L)] := hD.sub [0] (by decide) rfl
  exact xret_v hx hb hr hlocks (Nat.le_of_ble_eq_true rfl) (Nat.le_of_ble_eq_true rfl) hS.2.2 dX8_wrong_9 (fun t ht => ⟨⟨(u1.1, u1.2.1, u1.2.2), rfl, (by subst eu1; exact rfl), by rw [ht]; exact hP, hD⟩, hS.F ht⟩)

def f_X8_is_j1 (I : Nat → Int32) (x : Int32) : (Int32) :=
  if (I 9) = 4 then
    if (I 11) = x then
      1
    else
      0
  else
    0
def f_X8_is (I : Nat → Int32) (x : Int32) : Int32 :=
  let v5 := f_X8_is_j1 I x
  v5
abbrev q_X8_is (D : va_G) (k : KK) (o : Nat) (r : Nat → Nat) (mv : Value) (fr : Value) (I : Nat → Int32) (L : Nat → Int64) (x : Int32) (A : Nat → Prop) : Array Value → State → Outcome → State → Prop := va_Qi (fun (r_ : Int32) (u : Int32) => r_ = u ∧ u = f_X8_is I x ∧ (r_ = 0 ∨ r_ = 1)) (bx D (fun u => [(o, eMM r mv fr I L)]) A) A
abbrev rm_X8_is : Room := { frames := 1, cells := 0, slots := 0, locals := 40 }
theorem xo_X8_is : xok yX8_is 1 := by unfold xok; decide +kernel
set_option maxHeartbeats 8000000 in
theorem m_X8_is (l : Launch) (D : va_G) (k : KK) (sz : Nat) (o : Nat) (r : Nat → Nat) (mv : Value) (fr : Value) (I : Nat → Int32) (L : Nat → Int64) (x : Int32)  : Met l yX8_is (ws_ yX8_is cX8_is 2 (some .boolean)) rm_X8_is (pcx D k [.ref o, .int x] sz [(o, eMM r mv fr I L)] (fun _ => True)) (q_X8_is D k o r mv fr I L x (va_A [(o, eMM r mv fr I L)] sz)) 0 0 (va_A [(o, eMM r mv fr I L)] sz) := by
  refine Met.start (Qc := q_X8_is D k o r mv fr I L x) (by decide) (Nat.le_of_ble_eq_true rfl) ?_
  intro p e s m below meth c A hx hb hr hlocks hml hown hin hts hg hP hD hA hAn hS hY hsz ls hl
  have hown : s.vm.findClass RX8 = some m.cls := hown
  have hl : lv_has ls 2 [(0, .ref o), (1, .int x)] := hl
  refine lv_aload_n hx hb dX8_is_0 rfl (lv_at hl 0 rfl) ?_
  refine va_get (D := D) (ci := 10) (v := .int (I 9)) (C := RX8) (T := TX8) (N := 37) hx hb hts in_X8 hown hg.1 hP 0 rfl rfl 9 (Nat.le_of_ble_eq_true rfl) (hts _ q1150) (fun _ h9 => h9) rfl dX8_is_1 ?_
  refine lv_iconst (v := 4) hx hb dX8_is_4 ci_4 ?_
  have Jn1 : ∀ (v5 : (Int32)) (H : Heap) (locs : List Loc) (ls : Array Slot), v5 = f_X8_is_j1 I x → (v5 = 0 ∨ v5 = 1) → va_P D vwCl [(o, eMM r mv fr I L)] H → va_D A [(o, eMM r mv fr I L)] → va_S A s.heap H locs → lv_has ls 2 [(0, .ref o), (1, .int x)] → W p l e rm_X8_is s m ([.ref o, .int x] : List Value).toArray below meth c H locs 0 0 (MQ below (q_X8_is D k o r mv fr I L x A) ([.ref o, .int x] : List Value).toArray s 0 0 A) (F0 m 21 ls [.int v5]) := by
    intro v5 H locs ls ev5 bv5_0 hP hD hS hl
    exact xret_z hx hb hr hlocks (Nat.le_of_ble_eq_true rfl) (Nat.le_of_ble_eq_true rfl) hS.2.2 dX8_is_21 bv5_0 (fun t ht => ⟨⟨v5, v5, rfl, ⟨rfl, (by subst ev5; exact rfl), bv5_0⟩, by rw [ht]; exact hP, hD⟩, hS.F ht⟩)
  refine lv_icmp_ne (tgt := 20) hx hb dX8_is_5 (by decide) (fun c6 => ?_) (fun c6 => ?_)
  · refine lv_iconst (v := 0) hx hb dX8_is_20 ci_0 ?_
    exact Jn1 0 _ _ _ (by exact Eq.symm (Eq.trans (if_neg c6) (rfl))) (Or.inl rfl) hP hD hS (lv_sub hl [0, 1] rfl)
  · refine lv_aload_n hx hb dX8_is_8 rfl (lv_at hl 0 rfl) ?_
    refine va_get (D := D) (ci := 10) (v := .int (I 11)) (C := RX8) (T := TX8) (N := 37) hx hb hts in_X8 hown hg.1 hP 0 rfl rfl 11 (Nat.le_of_ble_eq_true rfl) (hts _ q1152) (fun _ h9 => h9) rfl dX8_is_9 ?_
    refine lv_iload_n hx hb dX8_is_12 rfl (lv_at hl 1 rfl) ?_
    refine lv_icmp_ne (tgt := 20) hx hb dX8_is_13 (by decide) (fun c7 => ?_) (fun c7 => ?_)
    · refine lv_iconst (v := 0) hx hb dX8_is_20 ci_0 ?_
      exact Jn1 0 _ _ _ (by exact Eq.symm (Eq.trans (if_pos c6) (Eq.trans (if_neg c7) (rfl)))) (Or.inl rfl) hP hD hS (lv_sub hl [0, 1] rfl)
    · refine lv_iconst (v := 1) hx hb dX8_is_16 ci_1 ?_
      refine lv_goto (tgt := 21) hx hb dX8_is_17 (by decide) ?_
      exact Jn1 1 _ _ _ (by exact Eq.symm (Eq.trans (if_pos c6) (Eq.trans (if_pos c7) (rfl)))) (Or.inr rfl) hP hD hS (lv_sub hl [0, 1] rfl)
