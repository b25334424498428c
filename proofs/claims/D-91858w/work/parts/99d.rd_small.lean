set_option maxRecDepth 100000
def f_X2_see_j1 (I : Nat → Int32) (tp : Nat → Int32) (x : Int32) (xj : Nat) : (Int32) :=
  if (I 3) ≤ x then
    (-1)
  else
    ((tp xj) &&& 255)
def f_X2_see (I : Nat → Int32) (tp : Nat → Int32) (x : Int32) (xj : Nat) : Int32 :=
  let v3 := f_X2_see_j1 I tp x xj
  v3
abbrev q_X2_see (D : va_G) (k : KK) (o : Nat) (r : Nat → Nat) (w8 : Value) (w9 : Value) (I : Nat → Int32) (tp : Nat → Int32) (x : Int32) (xj : Nat) (zj : Nat) (A : Nat → Prop) : Array Value → State → Outcome → State → Prop := va_Qi (fun (r_ : Int32) (u : Int32) => r_ = u ∧ u = f_X2_see I tp x xj) (bx D (fun u => [(o, eRD r w8 w9 I), ((r 1), aB k 700 tp)]) A) A
abbrev rm_X2_see : Room := { frames := 1, cells := 0, slots := 0, locals := 40 }
theorem xo_X2_see : xok yX2_see 1 := by unfold xok; decide +kernel
set_option maxHeartbeats 8000000 in
theorem m_X2_see (l : Launch) (D : va_G) (k : KK) (sz : Nat) (o : Nat) (r : Nat → Nat) (w8 : Value) (w9 : Value) (I : Nat → Int32) (tp : Nat → Int32) (x : Int32) (xj : Nat) (zj : Nat) (hxj : x = nI xj) (hxb : xj < 2 ^ 31) (hzj : I 3 = nI zj) (hz7 : zj ≤ 700) : Met l yX2_see (ws_ yX2_see cX2_see 2 (some .int)) rm_X2_see (pcx D k [.ref o, .int x] sz [(o, eRD r w8 w9 I), ((r 1), aB k 700 tp)] (fun _ => True)) (q_X2_see D k o r w8 w9 I tp x xj zj (va_A [(o, eRD r w8 w9 I), ((r 1), aB k 700 tp)] sz)) 0 0 (va_A [(o, eRD r w8 w9 I), ((r 1), aB k 700 tp)] sz) := by
  refine Met.start (Qc := q_X2_see D k o r w8 w9 I tp x xj zj) (by decide) (Nat.le_of_ble_eq_true rfl) ?_
  intro p e s m below meth c A hx hb hr hlocks hml hown hin hts hg hP hD hA hAn hS hY hsz ls hl
  have hown : s.vm.findClass RX2 = some m.cls := hown
  have hl : lv_has ls 2 [(0, .ref o), (1, .int x)] := hl
  refine lv_iload_n hx hb dX2_see_0 rfl (lv_at hl 1 rfl) ?_
  refine lv_aload_n hx hb dX2_see_1 rfl (lv_at hl 0 rfl) ?_
  refine va_get (D := D) (ci := 1) (v := .int (I 3)) (C := RX2) (T := TX2) (N := 10) hx hb hts in_X2 hown hg.1 hP 0 rfl rfl 3 (Nat.le_of_ble_eq_true rfl) (hts _ q198) (fun _ h9 => h9) rfl dX2_see_2 ?_
  have Jn1 : ∀ (v3 : (Int32)) (H : Heap) (locs : List Loc) (ls : Array Slot), v3 = f_X2_see_j1 I tp x xj → va_P D vwCl [(o, eRD r w8 w9 I), ((r 1), aB k 700 tp)] H → va_D A [(o, eRD r w8 w9 I), ((r 1), aB k 700 tp)] → va_S A s.heap H locs → lv_has ls 2 [(0, .ref o), (1, .int x)] → W p l e rm_X2_see s m ([.ref o, .int x] : List Value).toArray below meth c H locs 0 0 (MQ below (q_X2_see D k o r w8 w9 I tp x xj zj A) ([.ref o, .int x] : List Value).toArray s 0 0 A) (F0 m 22 ls [.int v3]) := by
    intro v3 H locs ls ev3 hP hD hS hl
    exact xret_i hx hb hr hlocks (Nat.le_of_ble_eq_true rfl) (Nat.le_of_ble_eq_true rfl) hS.2.2 dX2_see_22 (fun t ht => ⟨⟨v3, v3, rfl, ⟨rfl, (by subst ev3; exact rfl)⟩, by rw [ht]; exact hP, hD⟩, hS.F ht⟩)
  refine lv_icmp_ge (tgt := 21) hx hb dX2_see_5 (by decide) (fun c4 => ?_) (fun c4 => ?_)
  · refine lv_iconst (v := (-1)) hx hb dX2_see_21 ci_m1 ?_
    exact Jn1 (-1) _ _ _ (by exact Eq.symm (Eq.trans (if_pos c4) (rfl))) hP hD hS (lv_sub hl [0, 1] rfl)
  · have hlt := ba_lt hxj hzj hxb c4
    refine lv_aload_n hx hb dX2_see_8 rfl (lv_at hl 0 rfl) ?_
    refine va_get (D := D) (ci := 1) (v := .ref (r 1)) (C := RX2) (T := TX2) (N := 10) hx hb hts in_X2 hown hg.1 hP 0 rfl rfl 1 (Nat.le_of_ble_eq_true rfl) (hts _ q196) (fun _ h9 => h9) rfl dX2_see_9 ?_
    refine lv_iload_n hx hb dX2_see_12 rfl (lv_at hl 1 rfl) ?_
    refine xa_bald hx hb hg hP 1 rfl hxj (by first | omega | exact Nat.lt_of_lt_of_le (Nat.mod_lt _ (by omega)) (by omega)) (by omega) dX2_see_13 ?_
    refine lv_sipush (v := 255) hx hb dX2_see_14 cs_255 ?_
    refine lv_iand hx hb dX2_see_17 ?_
    refine lv_goto (tgt := 22) hx hb dX2_see_18 (by decide) ?_
    exact Jn1 ((tp xj) &&& 255) _ _ _ (by exact Eq.symm (Eq.trans (if_neg c4) (rfl))) hP hD hS (lv_sub hl [0, 1] rfl)

def f_X2_isSmall (v : Int32) : Int32 :=
  let u1 := f_X1_in v 97 122
  u1
abbrev q_X2_isSmall (D : va_G) (k : KK) (v : Int32) (A : Nat → Prop) : Array Value → State → Outcome → State → Prop := va_Qi (fun (r_ : Int32) (u : Int32) => r_ = u ∧ u = f_X2_isSmall v ∧ (r_ = 0 ∨ r_ = 1)) (bx D (fun u => []) A) A
abbrev rm_X2_isSmall : Room := { frames := 2, cells := 0, slots := 0, locals := 80 }
theorem xo_X2_isSmall : xok yX2_isSmall 1 := by unfold xok; decide +kernel
set_option maxHeartbeats 8000000 in
theorem m_X2_isSmall (l : Launch) (D : va_G) (k : KK) (sz : Nat) (v : Int32)  : Met l yX2_isSmall (ws_ yX2_isSmall cX2_isSmall 1 (some .boolean)) rm_X2_isSmall (pcx D k [.int v] sz [] (fun _ => True)) (q_X2_isSmall D k v (va_A [] sz)) 0 0 (va_A [] sz) := by
  refine Met.start (Qc := q_X2_isSmall D k v) (by decide) (Nat.le_of_ble_eq_true rfl) ?_
  intro p e s m below meth c A hx hb hr hlocks hml hown hin hts hg hP hD hA hAn hS hY hsz ls hl
  have hown : s.vm.findClass RX2 = some m.cls := hown
  have hl : lv_has ls 1 [(0, .int v)] := hl
  refine lv_iload_n hx hb dX2_isSmall_0 rfl (lv_at hl 0 rfl) ?_
  refine lv_bipush (v := 97) hx hb dX2_isSmall_1 cb_97 ?_
  refine lv_bipush (v := 122) hx hb dX2_isSmall_3 cb_122 ?_
  refine xc_i (wc := []) (wr := []) hP hD hS hA [] [] rfl rfl rfl (by decide) (xrSN ⟨hx, hb, hml, hown, hts⟩ hg (m_X1_in l D k _ v 97 122) hP hD [] rfl rfl trivial (nwM_X2_X1_in hg) q470 q83 q471 xo_X1_in ⟨rfl, rfl⟩ ⟨Nat.le_of_ble_eq_true rfl, Nat.le_of_ble_eq_true rfl⟩ hl.1 (Nat.le_of_ble_eq_true rfl) dX2_isSmall_5 ⟨Nat.le_of_ble_eq_true rfl, Nat.le_of_ble_eq_true rfl⟩ rfl) (fun u1 r_ H locs hw hP hD hS hk => ?_)
  obtain ⟨rfl, eu1, bu1⟩ := hw
  replace hP : va_P D vwCl [] H := hP.sub [] rfl
  replace hD : va_D A [] := hD.sub [] (by decide) rfl
  exact xret_z hx hb hr hlocks (Nat.le_of_ble_eq_true rfl) (Nat.le_of_ble_eq_true rfl) hS.2.2 dX2_isSmall_8 bu1 (fun t ht => ⟨⟨u1, u1, rfl, ⟨rfl, (by subst eu1; exact rfl), bu1⟩, by rw [ht]; exact hP, hD⟩, hS.F ht⟩)

def f_X2_isDigit (v : Int32) : Int32 :=
  let u1 := f_X1_in v 48 57
  u1
abbrev q_X2_isDigit (D : va_G) (k : KK) (v : Int32) (A : Nat → Prop) : Array Value → State → Outcome → State → Prop := va_Qi (fun (r_ : Int32) (u : Int32) => r_ = u ∧ u = f_X2_isDigit v ∧ (r_ = 0 ∨ r_ = 1)) (bx D (fun u => []) A) A
abbrev rm_X2_isDigit : Room := { frames := 2, cells := 0, slots := 0, locals := 80 }
theorem xo_X2_isDigit : xok yX2_isDigit 1 := by unfold xok; decide +kernel
set_option maxHeartbeats 8000000 in
theorem m_X2_isDigit (l : Launch) (D : va_G) (k : KK) (sz : Nat) (v : Int32)  : Met l yX2_isDigit (ws_ yX2_isDigit cX2_isDigit 1 (some .boolean)) rm_X2_isDigit (pcx D k [.int v] sz [] (fun _ => True)) (q_X2_isDigit D k v (va_A [] sz)) 0 0 (va_A [] sz) := by
  refine Met.start (Qc := q_X2_isDigit D k v) (by decide) (Nat.le_of_ble_eq_true rfl) ?_
  intro p e s m below meth c A hx hb hr hlocks hml hown hin hts hg hP hD hA hAn hS hY hsz ls hl
  have hown : s.vm.findClass RX2 = some m.cls := hown
  have hl : lv_has ls 1 [(0, .int v)] := hl
  refine lv_iload_n hx hb dX2_isDigit_0 rfl (lv_at hl 0 rfl) ?_
  refine lv_bipush (v := 48) hx hb dX2_isDigit_1 cb_48 ?_
  refine lv_bipush (v := 57) hx hb dX2_isDigit_3 cb_57 ?_
  refine xc_i (wc := []) (wr := []) hP hD hS hA [] [] rfl rfl rfl (by decide) (xrSN ⟨hx, hb, hml, hown, hts⟩ hg (m_X1_in l D k _ v 48 57) hP hD [] rfl rfl trivial (nwM_X2_X1_in hg) q470 q83 q471 xo_X1_in ⟨rfl, rfl⟩ ⟨Nat.le_of_ble_eq_true rfl, Nat.le_of_ble_eq_true rfl⟩ hl.1 (Nat.le_of_ble_eq_true rfl) dX2_isDigit_5 ⟨Nat.le_of_ble_eq_true rfl, Nat.le_of_ble_eq_true rfl⟩ rfl) (fun u1 r_ H locs hw hP hD hS hk => ?_)
  obtain ⟨rfl, eu1, bu1⟩ := hw
  replace hP : va_P D vwCl [] H := hP.sub [] rfl
  replace hD : va_D A [] := hD.sub [] (by decide) rfl
  exact xret_z hx hb hr hlocks (Nat.le_of_ble_eq_true rfl) (Nat.le_of_ble_eq_true rfl) hS.2.2 dX2_isDigit_8 bu1 (fun t ht => ⟨⟨u1, u1, rfl, ⟨rfl, (by subst eu1; exact rfl), bu1⟩, by rw [ht]; exact hP, hD⟩, hS.F ht⟩)

def f_X3_atR (x : Int32) (y : Int32) : Int32 × Int32 :=
  (x, y)
abbrev q_X3_atR (D : va_G) (k : KK) (a : Nat) (e0 : Value) (e1 : Value) (e2 : Value) (e3 : Value) (e4 : Value) (E : Nat → Int32) (x : Int32) (y : Int32) (A : Nat → Prop) : Array Value → State → Outcome → State → Prop := va_Qq (fun (r_ : Option Nat) (u : Int32 × Int32) => r_ = some a ∧ u = f_X3_atR x y) (bx D (fun u => [(a, eRF e0 e1 e2 e3 e4 (upd (upd E 6 u.1) 7 u.2))]) A) A
abbrev rm_X3_atR : Room := { frames := 1, cells := 0, slots := 0, locals := 40 }
set_option maxHeartbeats 8000000 in
theorem m_X3_atR (l : Launch) (D : va_G) (k : KK) (sz : Nat) (a : Nat) (e0 : Value) (e1 : Value) (e2 : Value) (e3 : Value) (e4 : Value) (E : Nat → Int32) (x : Int32) (y : Int32)  : Met l yX3_at (ws_ yX3_at cX3_at 3 (some (.object "RoarMill$Refused"))) rm_X3_atR (pcx D k [.ref a, .int x, .int y] sz [(a, eRF e0 e1 e2 e3 e4 E)] (fun _ => True)) (q_X3_atR D k a e0 e1 e2 e3 e4 E x y (va_A [(a, eRF e0 e1 e2 e3 e4 E)] sz)) 0 0 (va_A [(a, eRF e0 e1 e2 e3 e4 E)] sz) := by
  refine Met.start (Qc := q_X3_atR D k a e0 e1 e2 e3 e4 E x y) (by decide) (Nat.le_of_ble_eq_true rfl) ?_
  intro p e s m below meth c A hx hb hr hlocks hml hown hin hts hg hP hD hA hAn hS hY hsz ls hl
  have hown : s.vm.findClass RX3 = some m.cls := hown
  have hl : lv_has ls 3 [(0, .ref a), (1, .int x), (2, .int y)] := hl
  refine lv_aload_n hx hb dX3_at_0 rfl (lv_at hl 0 rfl) ?_
  refine lv_iload_n hx hb dX3_at_1 rfl (lv_at hl 1 rfl) ?_
  refine va_put (D := D) (ci := 2) (v := .int x) (C := RX3) (T := TX3) (N := 8) hx hb hts in_X3 tyX3 tyX3_ok nmX3 hown hg.1 hP hD hS 0 rfl rfl 6 (Nat.le_of_ble_eq_true rfl) (hts _ q173) (fun _ h9 => h9) rfl ftX3_6 rfl rfl (Nat.le_of_ble_eq_true rfl) dX3_at_2 (fun H locs hP hD hS => ?_)
  replace hP : va_P D vwCl [(a, eRF e0 e1 e2 e3 e4 (upd E 6 x))] H := hP
  replace hD : va_D A [(a, eRF e0 e1 e2 e3 e4 (upd E 6 x))] := hD
  refine lv_aload_n hx hb dX3_at_5 rfl (lv_at hl 0 rfl) ?_
  refine lv_iload_n hx hb dX3_at_6 rfl (lv_at hl 2 rfl) ?_
  refine va_put (D := D) (ci := 2) (v := .int y) (C := RX3) (T := TX3) (N := 8) hx hb hts in_X3 tyX3 tyX3_ok nmX3 hown hg.1 hP hD hS 0 rfl rfl 7 (Nat.le_of_ble_eq_true rfl) (hts _ q175) (fun _ h9 => h9) rfl ftX3_7 rfl rfl (Nat.le_of_ble_eq_true rfl) dX3_at_7 (fun H locs hP hD hS => ?_)
  replace hP : va_P D vwCl [(a, eRF e0 e1 e2 e3 e4 (upd (upd E 6 x) 7 y))] H := hP
  replace hD : va_D A [(a, eRF e0 e1 e2 e3 e4 (upd (upd E 6 x) 7 y))] := hD
  refine lv_aload_n hx hb dX3_at_10 rfl (lv_at hl 0 rfl) ?_
  exact xret_q hx hb hr hlocks (Nat.le_of_ble_eq_true rfl) (Nat.le_of_ble_eq_true rfl) hS.2.2 dX3_at_11 rfl (fun t ht => ⟨⟨some a, (x, y), rfl, ⟨rfl, rfl⟩, by rw [ht]; exact hP, hD⟩, hS.F ht⟩)

def f_X2_fail (I : Nat → Int32) (x : Int32) : Int32 × Int32 :=
  let u1 := f_X3_atR x (I 6)
  (u1.1, u1.2)
abbrev q_X2_fail (D : va_G) (k : KK) (o : Nat) (r : Nat → Nat) (w8 : Value) (w9 : Value) (I : Nat → Int32) (e0 : Value) (e1 : Value) (e2 : Value) (e3 : Value) (e4 : Value) (E : Nat → Int32) (x : Int32) (A : Nat → Prop) : Array Value → State → Outcome → State → Prop := va_Qq (fun (r_ : Option Nat) (u : Int32 × Int32) => r_ = some (r 0) ∧ u = f_X2_fail I x) (bx D (fun u => [(o, eRD r w8 w9 I), ((r 0), eRF e0 e1 e2 e3 e4 (upd (upd E 6 u.1) 7 u.2))]) A) A
abbrev rm_X2_fail : Room := { frames := 2, cells := 0, slots := 0, locals := 80 }
theorem xo_X2_fail : xok yX2_fail 1 := by unfold xok; decide +kernel
set_option maxHeartbeats 8000000 in
theorem m_X2_fail (l : Launch) (D : va_G) (k : KK) (sz : Nat) (o : Nat) (r : Nat → Nat) (w8 : Value) (w9 : Value) (I : Nat → Int32) (e0 : Value) (e1 : Value) (e2 : Value) (e3 : Value) (e4 : Value) (E : Nat → Int32) (x : Int32)  : Met l yX2_fail (ws_ yX2_fail cX2_fail 2 (some (.object "RoarMill$Refused"))) rm_X2_fail (pcx D k [.ref o, .int x] sz [(o, eRD r w8 w9 I), ((r 0), eRF e0 e1 e2 e3 e4 E)] (fun _ => True)) (q_X2_fail D k o r w8 w9 I e0 e1 e2 e3 e4 E x (va_A [(o, eRD r w8 w9 I), ((r 0), eRF e0 e1 e2 e3 e4 E)] sz)) 0 0 (va_A [(o, eRD r w8 w9 I), ((r 0), eRF e0 e1 e2 e3 e4 E)] sz) := by
  refine Met.start (Qc := q_X2_fail D k o r w8 w9 I e0 e1 e2 e3 e4 E x) (by decide) (Nat.le_of_ble_eq_true rfl) ?_
  intro p e s m below meth c A hx hb hr hlocks hml hown hin hts hg hP hD hA hAn hS hY hsz ls hl
  have hown : s.vm.findClass RX2 = some m.cls := hown
  have hl : lv_has ls 2 [(0, .ref o), (1, .int x)] := hl
  refine lv_aload_n hx hb dX2_fail_0 rfl (lv_at hl 0 rfl) ?_
  refine va_get (D := D) (ci := 1) (v := .ref (r 0)) (C := RX2) (T := TX2) (N := 10) hx hb hts in_X2 hown hg.1 hP 0 rfl rfl 0 (Nat.le_of_ble_eq_true rfl) (hts _ q195) (fun _ h9 => h9) rfl dX2_fail_1 ?_
  refine lv_iload_n hx hb dX2_fail_4 rfl (lv_at hl 1 rfl) ?_
  refine lv_aload_n hx hb dX2_fail_5 rfl (lv_at hl 0 rfl) ?_
  refine va_get (D := D) (ci := 1) (v := .int (I 6)) (C := RX2) (T := TX2) (N := 10) hx hb hts in_X2 hown hg.1 hP 0 rfl rfl 6 (Nat.le_of_ble_eq_true rfl) (hts _ q201) (fun _ h9 => h9) rfl dX2_fail_6 ?_
  refine xc_q (wc := [((r 0), eRF e0 e1 e2 e3 e4 E)]) (wr := [(o, eRD r w8 w9 I)]) hP hD hS hA [1] [0] rfl rfl rfl (by decide) (xrV ⟨hx, hb, hml, hown, hts⟩ hg (m_X3_atR l D k _ (r 0) e0 e1 e2 e3 e4 E x (I 6)) hP hD [1] rfl rfl trivial (ci := 2) (q0 := 1) rfl rfl rfl q669 q670 q671 q88 q672 xo_X3_at ⟨rfl, rfl⟩ ⟨Nat.le_of_ble_eq_true rfl, Nat.le_of_ble_eq_true rfl⟩ hl.1 (Nat.le_of_ble_eq_true rfl) dX2_fail_9 ⟨Nat.le_of_ble_eq_true rfl, Nat.le_of_ble_eq_true rfl⟩ rfl) (fun r_ u1 H locs hw hP hD hS hk => ?_)
  obtain ⟨rfl, eu1⟩ := hw
  replace hP : va_P D vwCl [(o, eRD r w8 w9 I), ((r 0), eRF e0 e1 e2 e3 e4 (upd (upd E 6 u1.1) 7 u1.2))] H := hP.sub [0, 1] rfl
  replace hD : va_D A [(o, eRD r w8 w9 I), ((r 0), eRF e0 e1 e2 e3 e4 (upd (upd E 6 u1.1) 7 u1.2))] := hD.sub [0, 1] (by decide) rfl
  refine W.eq (g2 := F0 m 12 ls [.ref (r 0)]) rfl ?_
  exact xret_q hx hb hr hlocks (Nat.le_of_ble_eq_true rfl) (Nat.le_of_ble_eq_true rfl) hS.2.2 dX2_fail_12 rfl (fun t ht => ⟨⟨some (r 0), (u1.1, u1.2), rfl, ⟨rfl, (by subst eu1; exact rfl)⟩, by rw [ht]; exact hP, hD⟩, hS.F ht⟩)

def f_X9_lacks_j1 (WI : Nat → Int32) : (Int32) :=
  if (WI 6) = 0 then
    1
  else
    if (WI 8) = (-1) then
      1
    else
      if (WI 10) = 0 then
        1
      else
        if (WI 11) = 0 then
          1
        else
          if (WI 5) = 0 then
            1
          else
            if (WI 3) < 2 then
              1
            else
              if (WI 4) = 0 then
                1
              else
                0
def f_X9_lacks (WI : Nat → Int32) : Int32 :=
  let v15 := f_X9_lacks_j1 WI
  v15
abbrev q_X9_lacks (D : va_G) (k : KK) (wa : Nat) (rw : Nat → Nat) (WI : Nat → Int32) (A : Nat → Prop) : Array Value → State → Outcome → State → Prop := va_Qi (fun (r_ : Int32) (u : Int32) => r_ = u ∧ u = f_X9_lacks WI ∧ (r_ = 0 ∨ r_ = 1)) (bx D (fun u => [(wa, eWK rw WI)]) A) A
abbrev rm_X9_lacks : Room := { frames := 1, cells := 0, slots := 0, locals := 40 }
theorem xo_X9_lacks : xok yX9_lacks 0 := by unfold xok; decide +kernel
set_option maxHeartbeats 8000000 in
theorem m_X9_lacks (l : Launch) (D : va_G) (k : KK) (sz : Nat) (wa : Nat) (rw : Nat → Nat) (WI : Nat → Int32)  : Met l yX9_lacks (ws_ yX9_lacks cX9_lacks 1 (some .boolean)) rm_X9_lacks (pcx D k [.ref wa] sz [(wa, eWK rw WI)] (fun _ => True)) (q_X9_lacks D k wa rw WI (va_A [(wa, eWK rw WI)] sz)) 0 0 (va_A [(wa, eWK rw WI)] sz) := by
  refine Met.start (Qc := q_X9_lacks D k wa rw WI) (by decide) (Nat.le_of_ble_eq_true rfl) ?_
  intro p e s m below meth c A hx hb hr hlocks hml hown hin hts hg hP hD hA hAn hS hY hsz ls hl
  have hown : s.vm.findClass RX9 = some m.cls := hown
  have hl : lv_has ls 1 [(0, .ref wa)] := hl
  refine lv_aload_n hx hb dX9_lacks_0 rfl (lv_at hl 0 rfl) ?_
  refine va_get (D := D) (ci := 7) (v := .int (WI 6)) (C := RX9) (T := TX9) (N := 13) hx hb hts in_X9 hown hg.1 hP 0 rfl rfl 6 (Nat.le_of_ble_eq_true rfl) (hts _ q512) (fun _ h9 => h9) rfl dX9_lacks_1 ?_
  have Jn1 : ∀ (v15 : (Int32)) (H : Heap) (locs : List Loc) (ls : Array Slot), v15 = f_X9_lacks_j1 WI → (v15 = 0 ∨ v15 = 1) → va_P D vwCl [(wa, eWK rw WI)] H → va_D A [(wa, eWK rw WI)] → va_S A s.heap H locs → lv_has ls 1 [(0, .ref wa)] → W p l e rm_X9_lacks s m ([.ref wa] : List Value).toArray below meth c H locs 0 0 (MQ below (q_X9_lacks D k wa rw WI A) ([.ref wa] : List Value).toArray s 0 0 A) (F0 m 56 ls [.int v15]) := by
    intro v15 H locs ls ev15 bv15_0 hP hD hS hl
    exact xret_z hx hb hr hlocks (Nat.le_of_ble_eq_true rfl) (Nat.le_of_ble_eq_true rfl) hS.2.2 dX9_lacks_56 bv15_0 (fun t ht => ⟨⟨v15, v15, rfl, ⟨rfl, (by subst ev15; exact rfl), bv15_0⟩, by rw [ht]; exact hP, hD⟩, hS.F ht⟩)
  refine lv_if_eq (tgt := 51) hx hb dX9_lacks_4 (by decide) (fun c16 => ?_) (fun c16 => ?_)
  · refine lv_iconst (v := 1) hx hb dX9_lacks_51 ci_1 ?_
    refine lv_goto (tgt := 56) hx hb dX9_lacks_52 (by decide) ?_
    exact Jn1 1 _ _ _ (by exact Eq.symm (Eq.trans (if_pos c16) (rfl))) (Or.inr rfl) hP hD hS (lv_sub hl [0] rfl)
  · refine lv_aload_n hx hb dX9_lacks_7 rfl (lv_at hl 0 rfl) ?_
    refine va_get (D := D) (ci := 7) (v := .int (WI 8)) (C := RX9) (T := TX9) (N := 13) hx hb hts in_X9 hown hg.1 hP 0 rfl rfl 8 (Nat.le_of_ble_eq_true rfl) (hts _ q519) (fun _ h9 => h9) rfl dX9_lacks_8 ?_
    refine lv_iconst (v := (-1)) hx hb dX9_lacks_11 ci_m1 ?_
    refine lv_icmp_eq (tgt := 51) hx hb dX9_lacks_12 (by decide) (fun c17 => ?_) (fun c17 => ?_)
    · refine lv_iconst (v := 1) hx hb dX9_lacks_51 ci_1 ?_
      refine lv_goto (tgt := 56) hx hb dX9_lacks_52 (by decide) ?_
      exact Jn1 1 _ _ _ (by exact Eq.symm (Eq.trans (if_neg c16) (Eq.trans (if_pos c17) (rfl)))) (Or.inr rfl) hP hD hS (lv_sub hl [0] rfl)
    · refine lv_aload_n hx hb dX9_lacks_15 rfl (lv_at hl 0 rfl) ?_
      refine va_get (D := D) (ci := 7) (v := .int (WI 10)) (C := RX9) (T := TX9) (N := 13) hx hb hts in_X9 hown hg.1 hP 0 rfl rfl 10 (Nat.le_of_ble_eq_true rfl) (hts _ q528) (fun _ h9 => h9) rfl dX9_lacks_16 ?_
      refine lv_if_eq (tgt := 51) hx hb dX9_lacks_19 (by decide) (fun c18 => ?_) (fun c18 => ?_)
      · refine lv_iconst (v := 1) hx hb dX9_lacks_51 ci_1 ?_
        refine lv_goto (tgt := 56) hx hb dX9_lacks_52 (by decide) ?_
        exact Jn1 1 _ _ _ (by exact Eq.symm (Eq.trans (if_neg c16) (Eq.trans (if_neg c17) (Eq.trans (if_pos c18) (rfl))))) (Or.inr rfl) hP hD hS (lv_sub hl [0] rfl)
      · refine lv_aload_n hx hb dX9_lacks_22 rfl (lv_at hl 0 rfl) ?_
        refine va_get (D := D) (ci := 7) (v := .int (WI 11)) (C := RX9) (T := TX9) (N := 13) hx hb hts in_X9 hown hg.1 hP 0 rfl rfl 11 (Nat.le_of_ble_eq_true rfl) (hts _ q532) (fun _ h9 => h9) rfl dX9_lacks_23 ?_
        refine lv_if_eq (tgt := 51) hx hb dX9_lacks_26 (by decide) (fun c19 => ?_) (fun c19 => ?_)
        · refine lv_iconst (v := 1) hx hb dX9_lacks_51 ci_1 ?_
          refine lv_goto (tgt := 56) hx hb dX9_lacks_52 (by decide) ?_
          exact Jn1 1 _ _ _ (by exact Eq.symm (Eq.trans (if_neg c16) (Eq.trans (if_neg c17) (Eq.trans (if_neg c18) (Eq.trans (if_pos c19) (rfl)))))) (Or.inr rfl) hP hD hS (lv_sub hl [0] rfl)
        · refine lv_aload_n hx hb dX9_lacks_29 rfl (lv_at hl 0 rfl) ?_
          refine va_get (D := D) (ci := 7) (v := .int (WI 5)) (C := RX9) (T := TX9) (N := 13) hx hb hts in_X9 hown hg.1 hP 0 rfl rfl 5 (Nat.le_of_ble_eq_true rfl) (hts _ q508) (fun _ h9 => h9) rfl dX9_lacks_30 ?_
          refine lv_if_eq (tgt := 51) hx hb dX9_lacks_33 (by decide) (fun c20 => ?_) (fun c20 => ?_)
          · refine lv_iconst (v := 1) hx hb dX9_lacks_51 ci_1 ?_
            refine lv_goto (tgt := 56) hx hb dX9_lacks_52 (by decide) ?_
            exact Jn1 1 _ _ _ (by exact Eq.symm (Eq.trans (if_neg c16) (Eq.trans (if_neg c17) (Eq.trans (if_neg c18) (Eq.trans (if_neg c19) (Eq.trans (if_pos c20) (rfl))))))) (Or.inr rfl) hP hD hS (lv_sub hl [0] rfl)
          · refine lv_aload_n hx hb dX9_lacks_36 rfl (lv_at hl 0 rfl) ?_
            refine va_get (D := D) (ci := 7) (v := .int (WI 3)) (C := RX9) (T := TX9) (N := 13) hx hb hts in_X9 hown hg.1 hP 0 rfl rfl 3 (Nat.le_of_ble_eq_true rfl) (hts _ q500) (fun _ h9 => h9) rfl dX9_lacks_37 ?_
            refine lv_iconst (v := 2) hx hb dX9_lacks_40 ci_2 ?_
            refine lv_icmp_lt (tgt := 51) hx hb dX9_lacks_41 (by decide) (fun c21 => ?_) (fun c21 => ?_)
            · refine lv_iconst (v := 1) hx hb dX9_lacks_51 ci_1 ?_
              refine lv_goto (tgt := 56) hx hb dX9_lacks_52 (by decide) ?_
              exact Jn1 1 _ _ _ (by exact Eq.symm (Eq.trans (if_neg c16) (Eq.trans (if_neg c17) (Eq.trans (if_neg c18) (Eq.trans (if_neg c19) (Eq.trans (if_neg c20) (Eq.trans (if_pos c21) (rfl)))))))) (Or.inr rfl) hP hD hS (lv_sub hl [0] rfl)
            · refine lv_aload_n hx hb dX9_lacks_44 rfl (lv_at hl 0 rfl) ?_
              refine va_get (D := D) (ci := 7) (v := .int (WI 4)) (C := RX9) (T := TX9) (N := 13) hx hb hts in_X9 hown hg.1 hP 0 rfl rfl 4 (Nat.le_of_ble_eq_true rfl) (hts _ q505) (fun _ h9 => h9) rfl dX9_lacks_45 ?_
              refine lv_if_ne (tgt := 55) hx hb dX9_lacks_48 (by decide) (fun c22 => ?_) (fun c22 => ?_)
              · refine lv_iconst (v := 0) hx hb dX9_lacks_55 ci_0 ?_
                exact Jn1 0 _ _ _ (by exact Eq.symm (Eq.trans (if_neg c16) (Eq.trans (if_neg c17) (Eq.trans (if_neg c18) (Eq.trans (if_neg c19) (Eq.trans (if_neg c20) (Eq.trans (if_neg c21) (Eq.trans (if_neg c22) (rfl))))))))) (Or.inl rfl) hP hD hS (lv_sub hl [0] rfl)
              · refine lv_iconst (v := 1) hx hb dX9_lacks_51 ci_1 ?_
                refine lv_goto (tgt := 56) hx hb dX9_lacks_52 (by decide) ?_
                exact Jn1 1 _ _ _ (by exact Eq.symm (Eq.trans (if_neg c16) (Eq.trans (if_neg c17) (Eq.trans (if_neg c18) (Eq.trans (if_neg c19) (Eq.trans (if_neg c20) (Eq.trans (if_neg c21) (Eq.trans (if_pos c22) (rfl))))))))) (Or.inr rfl) hP hD hS (lv_sub hl [0] rfl)
