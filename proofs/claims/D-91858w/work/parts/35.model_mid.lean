set_option maxRecDepth 100000
def f_X8_tons_j1 (wh : Int32) : (Int32) :=
  if wh = 0 then
    0
  else
    if wh = 1 then
      5
    else
      if wh = 2 then
        10
      else
        15
def f_X8_tons (MI : Nat → Int32) (sv : Nat → Int32) (x : Int32) (wh : Int32) : Int32 × Int32 :=
  let u1 := f_X8_isSize MI x
  if u1 = 0 then
    ((-1), 0)
  else
    let u3 := f_X8_in wh 0 3
    if u3 = 0 then
      ((-1), 0)
    else
      let v11 := f_X8_tons_j1 wh
      let j12 := if wh = 0 then 0 else if wh = 1 then 5 else if wh = 2 then 10 else 15
      ((sv (j12 + x.toNatClampNeg)), 0)
abbrev q_X8_tons (D : va_G) (k : KK) (o : Nat) (r : Nat → Nat) (fr : Value) (I : Nat → Int32) (L : Nat → Int64) (ma : Nat) (mr : Nat → Nat) (MI : Nat → Int32) (sv : Nat → Int32) (x : Int32) (wh : Int32) (nS : Nat) (A : Nat → Prop) : Array Value → State → Outcome → State → Prop := va_Qi (fun (r_ : Int32) (u : Int32 × Int32) => r_ = u.1 ∧ u = f_X8_tons MI sv x wh) (bx D (fun u => [(o, eMM r (.ref ma) fr (upd I 0 u.2) L), (ma, eMI mr MI), ((r 16), aI k 37 sv)]) A) A
abbrev rm_X8_tons : Room := { frames := 3, cells := 0, slots := 0, locals := 120 }
theorem xo_X8_tons : xok yX8_tons 2 := by unfold xok; decide +kernel
set_option maxHeartbeats 8000000 in
theorem m_X8_tons (l : Launch) (D : va_G) (k : KK) (sz : Nat) (o : Nat) (r : Nat → Nat) (fr : Value) (I : Nat → Int32) (L : Nat → Int64) (ma : Nat) (mr : Nat → Nat) (MI : Nat → Int32) (sv : Nat → Int32) (x : Int32) (wh : Int32) (nS : Nat) (hmS : MI 8 = nI nS) (hS2 : 2 ≤ nS) (hS5 : nS ≤ 5) : Met l yX8_tons (ws_ yX8_tons cX8_tons 3 (some .int)) rm_X8_tons (pcx D k [.ref o, .int x, .int wh] sz [(o, eMM r (.ref ma) fr I L), (ma, eMI mr MI), ((r 16), aI k 37 sv)] (fun _ => True)) (q_X8_tons D k o r fr I L ma mr MI sv x wh nS (va_A [(o, eMM r (.ref ma) fr I L), (ma, eMI mr MI), ((r 16), aI k 37 sv)] sz)) 0 0 (va_A [(o, eMM r (.ref ma) fr I L), (ma, eMI mr MI), ((r 16), aI k 37 sv)] sz) := by
  refine Met.start (Qc := q_X8_tons D k o r fr I L ma mr MI sv x wh nS) (by decide) (Nat.le_of_ble_eq_true rfl) ?_
  intro p e s m below meth c A hx hb hr hlocks hml hown hin hts hg hP hD hA hAn hS hY hsz ls hl
  have hown : s.vm.findClass RX8 = some m.cls := hown
  have hl : lv_has ls 3 [(0, .ref o), (1, .int x), (2, .int wh)] := hl
  refine lv_aload_n hx hb dX8_tons_0 rfl (lv_at hl 0 rfl) ?_
  refine lv_iconst (v := 0) hx hb dX8_tons_1 ci_0 ?_
  refine va_put (D := D) (ci := 10) (v := .int 0) (C := RX8) (T := TX8) (N := 37) hx hb hts in_X8 tyX8 tyX8_ok nmX8 hown hg.1 hP hD hS 0 rfl rfl 0 (Nat.le_of_ble_eq_true rfl) (hts _ q1141) (fun _ h9 => h9) rfl ftX8_0 rfl rfl (Nat.le_of_ble_eq_true rfl) dX8_tons_2 (fun H locs hP hD hS => ?_)
  replace hP : va_P D vwCl [(o, eMM r (.ref ma) fr (upd I 0 0) L), (ma, eMI mr MI), ((r 16), aI k 37 sv)] H := hP
  replace hD : va_D A [(o, eMM r (.ref ma) fr (upd I 0 0) L), (ma, eMI mr MI), ((r 16), aI k 37 sv)] := hD
  refine lv_aload_n hx hb dX8_tons_5 rfl (lv_at hl 0 rfl) ?_
  refine lv_iload_n hx hb dX8_tons_6 rfl (lv_at hl 1 rfl) ?_
  refine xc_i (wc := [(o, eMM r (.ref ma) fr (upd I 0 0) L), (ma, eMI mr MI)]) (wr := [((r 16), aI k 37 sv)]) hP hD hS hA [0, 1] [2] rfl rfl rfl (by decide) (xrV ⟨hx, hb, hml, hown, hts⟩ hg (m_X8_isSize l D k _ o r fr (upd I 0 0) L ma mr MI x) hP hD [0, 1] rfl rfl trivial (ci := 10) (q0 := 0) rfl rfl rfl q1546 q1548 qs70 q93 q1549 xo_X8_isSize ⟨rfl, rfl⟩ ⟨Nat.le_of_ble_eq_true rfl, Nat.le_of_ble_eq_true rfl⟩ hl.1 (Nat.le_of_ble_eq_true rfl) dX8_tons_7 ⟨Nat.le_of_ble_eq_true rfl, Nat.le_of_ble_eq_true rfl⟩ rfl) (fun u1 r_ H locs hw hP hD hS hk => ?_)
  obtain ⟨rfl, eu1, bu1⟩ := hw
  replace hP : va_P D vwCl [(o, eMM r (.ref ma) fr (upd I 0 0) L), (ma, eMI mr MI), ((r 16), aI k 37 sv)] H := hP.sub [1, 2, 0] rfl
  replace hD : va_D A [(o, eMM r (.ref ma) fr (upd I 0 0) L), (ma, eMI mr MI), ((r 16), aI k 37 sv)] := hD.sub [1, 2, 0] (by decide) rfl
  refine lv_if_eq (tgt := 22) hx hb dX8_tons_10 (by decide) (fun c2 => ?_) (fun c2 => ?_)
  · refine lv_iconst (v := (-1)) hx hb dX8_tons_22 ci_m1 ?_
    exact xret_i hx hb hr hlocks (Nat.le_of_ble_eq_true rfl) (Nat.le_of_ble_eq_true rfl) hS.2.2 dX8_tons_23 (fun t ht => ⟨⟨(-1), ((-1), 0), rfl, ⟨rfl, (by subst eu1; exact Eq.symm (Eq.trans (if_pos c2) (rfl)))⟩, by rw [ht]; exact hP, hD⟩, hS.F ht⟩)
  · obtain ⟨hn_x, hb_x⟩ := m_isSize hmS hS5 (fun h => c2 (eu1.trans h))
    refine lv_iload_n hx hb dX8_tons_13 rfl (lv_at hl 2 rfl) ?_
    refine lv_iconst (v := 0) hx hb dX8_tons_14 ci_0 ?_
    refine lv_iconst (v := 3) hx hb dX8_tons_15 ci_3 ?_
    refine xc_i (wc := []) (wr := [(o, eMM r (.ref ma) fr (upd I 0 0) L), (ma, eMI mr MI), ((r 16), aI k 37 sv)]) hP hD hS hA [] [0, 1, 2] rfl rfl rfl (by decide) (xrS ⟨hx, hb, hml, hown, hts⟩ hg (m_X8_in l D k _ wh 0 3) hP hD [] rfl rfl trivial q1426 q1427 q93 q1428 xo_X8_in ⟨rfl, rfl⟩ ⟨Nat.le_of_ble_eq_true rfl, Nat.le_of_ble_eq_true rfl⟩ hl.1 (Nat.le_of_ble_eq_true rfl) dX8_tons_16 ⟨Nat.le_of_ble_eq_true rfl, Nat.le_of_ble_eq_true rfl⟩ rfl) (fun u3 r_ H locs hw hP hD hS hk => ?_)
    obtain ⟨rfl, eu3, bu3⟩ := hw
    replace hP : va_P D vwCl [(o, eMM r (.ref ma) fr (upd I 0 0) L), (ma, eMI mr MI), ((r 16), aI k 37 sv)] H := hP.sub [0, 1, 2] rfl
    replace hD : va_D A [(o, eMM r (.ref ma) fr (upd I 0 0) L), (ma, eMI mr MI), ((r 16), aI k 37 sv)] := hD.sub [0, 1, 2] (by decide) rfl
    refine lv_if_ne (tgt := 24) hx hb dX8_tons_19 (by decide) (fun c4 => ?_) (fun c4 => ?_)
    · refine lv_aload_n hx hb dX8_tons_24 rfl (lv_at hl 0 rfl) ?_
      refine va_get (D := D) (ci := 10) (v := .ref (r 16)) (C := RX8) (T := TX8) (N := 37) hx hb hts in_X8 hown hg.1 hP 0 rfl rfl 16 (Nat.le_of_ble_eq_true rfl) (hts _ q1157) (fun _ h9 => h9) rfl dX8_tons_25 ?_
      refine lv_iload_n hx hb dX8_tons_28 rfl (lv_at hl 2 rfl) ?_
      have Jn1 : ∀ (v11 : (Int32)) (H : Heap) (locs : List Loc) (ls : Array Slot), v11 = f_X8_tons_j1 wh → va_P D vwCl [(o, eMM r (.ref ma) fr (upd I 0 0) L), (ma, eMI mr MI), ((r 16), aI k 37 sv)] H → va_D A [(o, eMM r (.ref ma) fr (upd I 0 0) L), (ma, eMI mr MI), ((r 16), aI k 37 sv)] → va_S A s.heap H locs → lv_has ls 3 [(0, .ref o), (1, .int x), (2, .int wh)] → W p l e rm_X8_tons s m ([.ref o, .int x, .int wh] : List Value).toArray below meth c H locs 0 0 (MQ below (q_X8_tons D k o r fr I L ma mr MI sv x wh nS A) ([.ref o, .int x, .int wh] : List Value).toArray s 0 0 A) (F0 m 57 ls [.int v11, .ref (r 16)]) := by
        intro v11 H locs ls ev11 hP hD hS hl
        obtain ⟨j12, ej12⟩ : ∃ z : Nat, z = if wh = 0 then 0 else if wh = 1 then 5 else if wh = 2 then 10 else 15 := ⟨_, rfl⟩
        have hbj12 : j12 ≤ 15 := by rw [ej12]; (repeat' split) <;> omega
        have hj12 : v11 = nI j12 := by rw [ej12, ev11]; exact xite xl_0 (xite xl_5 (xite xl_10 xl_15))
        refine lv_iload_n hx hb dX8_tons_57 rfl (lv_at hl 1 rfl) ?_
        refine lv_iadd hx hb dX8_tons_58 ?_
        refine xa_iald hx hb hg hP 2 rfl (xnadd hj12 hn_x) (by first | omega | exact Nat.lt_of_lt_of_le (Nat.mod_lt _ (by omega)) (by omega)) (by omega) dX8_tons_59 ?_
        exact xret_i hx hb hr hlocks (Nat.le_of_ble_eq_true rfl) (Nat.le_of_ble_eq_true rfl) hS.2.2 dX8_tons_60 (fun t ht => ⟨⟨(sv (j12 + x.toNatClampNeg)), ((sv (j12 + x.toNatClampNeg)), 0), rfl, ⟨rfl, (by subst ej12; subst ev11; subst eu3; subst eu1; exact Eq.symm (Eq.trans (if_neg c2) (Eq.trans (if_neg c4) (rfl))))⟩, by rw [ht]; exact hP, hD⟩, hS.F ht⟩)
      refine lv_if_ne (tgt := 36) hx hb dX8_tons_29 (by decide) (fun c13 => ?_) (fun c13 => ?_)
      · refine lv_iload_n hx hb dX8_tons_36 rfl (lv_at hl 2 rfl) ?_
        refine lv_iconst (v := 1) hx hb dX8_tons_37 ci_1 ?_
        refine lv_icmp_ne (tgt := 45) hx hb dX8_tons_38 (by decide) (fun c14 => ?_) (fun c14 => ?_)
        · refine lv_iload_n hx hb dX8_tons_45 rfl (lv_at hl 2 rfl) ?_
          refine lv_iconst (v := 2) hx hb dX8_tons_46 ci_2 ?_
          refine lv_icmp_ne (tgt := 55) hx hb dX8_tons_47 (by decide) (fun c15 => ?_) (fun c15 => ?_)
          · refine lv_bipush (v := 15) hx hb dX8_tons_55 cb_15 ?_
            exact Jn1 15 _ _ _ (by exact Eq.symm (Eq.trans (if_neg c13) (Eq.trans (if_neg c14) (Eq.trans (if_neg c15) (rfl))))) hP hD hS (lv_sub hl [0, 1, 2] rfl)
          · refine lv_bipush (v := 10) hx hb dX8_tons_50 cb_10 ?_
            refine lv_goto (tgt := 57) hx hb dX8_tons_52 (by decide) ?_
            exact Jn1 10 _ _ _ (by exact Eq.symm (Eq.trans (if_neg c13) (Eq.trans (if_neg c14) (Eq.trans (if_pos c15) (rfl))))) hP hD hS (lv_sub hl [0, 1, 2] rfl)
        · refine lv_iconst (v := 5) hx hb dX8_tons_41 ci_5 ?_
          refine lv_goto (tgt := 57) hx hb dX8_tons_42 (by decide) ?_
          exact Jn1 5 _ _ _ (by exact Eq.symm (Eq.trans (if_neg c13) (Eq.trans (if_pos c14) (rfl)))) hP hD hS (lv_sub hl [0, 1, 2] rfl)
      · refine lv_iconst (v := 0) hx hb dX8_tons_32 ci_0 ?_
        refine lv_goto (tgt := 57) hx hb dX8_tons_33 (by decide) ?_
        exact Jn1 0 _ _ _ (by exact Eq.symm (Eq.trans (if_pos c13) (rfl))) hP hD hS (lv_sub hl [0, 1, 2] rfl)
    · refine lv_iconst (v := (-1)) hx hb dX8_tons_22 ci_m1 ?_
      exact xret_i hx hb hr hlocks (Nat.le_of_ble_eq_true rfl) (Nat.le_of_ble_eq_true rfl) hS.2.2 dX8_tons_23 (fun t ht => ⟨⟨(-1), ((-1), 0), rfl, ⟨rfl, (by subst eu3; subst eu1; exact Eq.symm (Eq.trans (if_neg c2) (Eq.trans (if_pos c4) (rfl))))⟩, by rw [ht]; exact hP, hD⟩, hS.F ht⟩)

def f_X8_tonsN  : Int32 × Int32 :=
  let u1 := f_X8_isSizeN
  ((-1), 0)
abbrev q_X8_tonsN (D : va_G) (k : KK) (o : Nat) (r : Nat → Nat) (fr : Value) (I : Nat → Int32) (L : Nat → Int64) (sv : Nat → Int32) (x : Int32) (wh : Int32) (A : Nat → Prop) : Array Value → State → Outcome → State → Prop := va_Qi (fun (r_ : Int32) (u : Int32 × Int32) => r_ = u.1 ∧ u = f_X8_tonsN) (bx D (fun u => [(o, eMM r .null fr (upd I 0 u.2) L), ((r 16), aI k 37 sv)]) A) A
abbrev rm_X8_tonsN : Room := { frames := 3, cells := 0, slots := 0, locals := 120 }
set_option maxHeartbeats 8000000 in
theorem m_X8_tonsN (l : Launch) (D : va_G) (k : KK) (sz : Nat) (o : Nat) (r : Nat → Nat) (fr : Value) (I : Nat → Int32) (L : Nat → Int64) (sv : Nat → Int32) (x : Int32) (wh : Int32)  : Met l yX8_tons (ws_ yX8_tons cX8_tons 3 (some .int)) rm_X8_tonsN (pcx D k [.ref o, .int x, .int wh] sz [(o, eMM r .null fr I L), ((r 16), aI k 37 sv)] (fun _ => True)) (q_X8_tonsN D k o r fr I L sv x wh (va_A [(o, eMM r .null fr I L), ((r 16), aI k 37 sv)] sz)) 0 0 (va_A [(o, eMM r .null fr I L), ((r 16), aI k 37 sv)] sz) := by
  refine Met.start (Qc := q_X8_tonsN D k o r fr I L sv x wh) (by decide) (Nat.le_of_ble_eq_true rfl) ?_
  intro p e s m below meth c A hx hb hr hlocks hml hown hin hts hg hP hD hA hAn hS hY hsz ls hl
  have hown : s.vm.findClass RX8 = some m.cls := hown
  have hl : lv_has ls 3 [(0, .ref o), (1, .int x), (2, .int wh)] := hl
  refine lv_aload_n hx hb dX8_tons_0 rfl (lv_at hl 0 rfl) ?_
  refine lv_iconst (v := 0) hx hb dX8_tons_1 ci_0 ?_
  refine va_put (D := D) (ci := 10) (v := .int 0) (C := RX8) (T := TX8) (N := 37) hx hb hts in_X8 tyX8 tyX8_ok nmX8 hown hg.1 hP hD hS 0 rfl rfl 0 (Nat.le_of_ble_eq_true rfl) (hts _ q1141) (fun _ h9 => h9) rfl ftX8_0 rfl rfl (Nat.le_of_ble_eq_true rfl) dX8_tons_2 (fun H locs hP hD hS => ?_)
  replace hP : va_P D vwCl [(o, eMM r .null fr (upd I 0 0) L), ((r 16), aI k 37 sv)] H := hP
  replace hD : va_D A [(o, eMM r .null fr (upd I 0 0) L), ((r 16), aI k 37 sv)] := hD
  refine lv_aload_n hx hb dX8_tons_5 rfl (lv_at hl 0 rfl) ?_
  refine lv_iload_n hx hb dX8_tons_6 rfl (lv_at hl 1 rfl) ?_
  refine xc_i (wc := [(o, eMM r .null fr (upd I 0 0) L)]) (wr := [((r 16), aI k 37 sv)]) hP hD hS hA [0] [1] rfl rfl rfl (by decide) (xrV ⟨hx, hb, hml, hown, hts⟩ hg (m_X8_isSizeN l D k _ o r fr (upd I 0 0) L x) hP hD [0] rfl rfl trivial (ci := 10) (q0 := 0) rfl rfl rfl q1546 q1548 qs70 q93 q1549 xo_X8_isSize ⟨rfl, rfl⟩ ⟨Nat.le_of_ble_eq_true rfl, Nat.le_of_ble_eq_true rfl⟩ hl.1 (Nat.le_of_ble_eq_true rfl) dX8_tons_7 ⟨Nat.le_of_ble_eq_true rfl, Nat.le_of_ble_eq_true rfl⟩ rfl) (fun u1 r_ H locs hw hP hD hS hk => ?_)
  obtain ⟨rfl, eu1, bu1⟩ := hw
  replace hP : va_P D vwCl [(o, eMM r .null fr (upd I 0 0) L), ((r 16), aI k 37 sv)] H := hP.sub [1, 0] rfl
  replace hD : va_D A [(o, eMM r .null fr (upd I 0 0) L), ((r 16), aI k 37 sv)] := hD.sub [1, 0] (by decide) rfl
  refine lv_if_eq (tgt := 22) hx hb dX8_tons_10 (by decide) (fun _ => ?_) (fun c => absurd ((eu1).trans rfl) c)
  refine lv_iconst (v := (-1)) hx hb dX8_tons_22 ci_m1 ?_
  exact xret_i hx hb hr hlocks (Nat.le_of_ble_eq_true rfl) (Nat.le_of_ble_eq_true rfl) hS.2.2 dX8_tons_23 (fun t ht => ⟨⟨(-1), ((-1), 0), rfl, ⟨rfl, (by subst eu1; exact rfl)⟩, by rw [ht]; exact hP, hD⟩, hS.F ht⟩)

def f_X8_state_j1 (sv : Nat → Int32) (x : Int32) (u1 : Int32) : (Int32) :=
  if u1 = 0 then
    (-1)
  else
    (sv (20 + x.toNatClampNeg))
def f_X8_state (sv : Nat → Int32) (x : Int32) : Int32 × Int32 :=
  let u1 := f_X8_in x 0 16
  let v4 := f_X8_state_j1 sv x u1
  (v4, 0)
abbrev q_X8_state (D : va_G) (k : KK) (o : Nat) (r : Nat → Nat) (mv : Value) (fr : Value) (I : Nat → Int32) (L : Nat → Int64) (sv : Nat → Int32) (x : Int32) (A : Nat → Prop) : Array Value → State → Outcome → State → Prop := va_Qi (fun (r_ : Int32) (u : Int32 × Int32) => r_ = u.1 ∧ u = f_X8_state sv x) (bx D (fun u => [(o, eMM r mv fr (upd I 0 u.2) L), ((r 16), aI k 37 sv)]) A) A
abbrev rm_X8_state : Room := { frames := 3, cells := 0, slots := 0, locals := 120 }
theorem xo_X8_state : xok yX8_state 1 := by unfold xok; decide +kernel
set_option maxHeartbeats 8000000 in
theorem m_X8_state (l : Launch) (D : va_G) (k : KK) (sz : Nat) (o : Nat) (r : Nat → Nat) (mv : Value) (fr : Value) (I : Nat → Int32) (L : Nat → Int64) (sv : Nat → Int32) (x : Int32)  : Met l yX8_state (ws_ yX8_state cX8_state 2 (some .int)) rm_X8_state (pcx D k [.ref o, .int x] sz [(o, eMM r mv fr I L), ((r 16), aI k 37 sv)] (fun _ => True)) (q_X8_state D k o r mv fr I L sv x (va_A [(o, eMM r mv fr I L), ((r 16), aI k 37 sv)] sz)) 0 0 (va_A [(o, eMM r mv fr I L), ((r 16), aI k 37 sv)] sz) := by
  refine Met.start (Qc := q_X8_state D k o r mv fr I L sv x) (by decide) (Nat.le_of_ble_eq_true rfl) ?_
  intro p e s m below meth c A hx hb hr hlocks hml hown hin hts hg hP hD hA hAn hS hY hsz ls hl
  have hown : s.vm.findClass RX8 = some m.cls := hown
  have hl : lv_has ls 2 [(0, .ref o), (1, .int x)] := hl
  refine lv_aload_n hx hb dX8_state_0 rfl (lv_at hl 0 rfl) ?_
  refine lv_iconst (v := 0) hx hb dX8_state_1 ci_0 ?_
  refine va_put (D := D) (ci := 10) (v := .int 0) (C := RX8) (T := TX8) (N := 37) hx hb hts in_X8 tyX8 tyX8_ok nmX8 hown hg.1 hP hD hS 0 rfl rfl 0 (Nat.le_of_ble_eq_true rfl) (hts _ q1141) (fun _ h9 => h9) rfl ftX8_0 rfl rfl (Nat.le_of_ble_eq_true rfl) dX8_state_2 (fun H locs hP hD hS => ?_)
  replace hP : va_P D vwCl [(o, eMM r mv fr (upd I 0 0) L), ((r 16), aI k 37 sv)] H := hP
  replace hD : va_D A [(o, eMM r mv fr (upd I 0 0) L), ((r 16), aI k 37 sv)] := hD
  refine lv_iload_n hx hb dX8_state_5 rfl (lv_at hl 1 rfl) ?_
  refine lv_iconst (v := 0) hx hb dX8_state_6 ci_0 ?_
  refine lv_bipush (v := 16) hx hb dX8_state_7 cb_16 ?_
  refine xc_i (wc := []) (wr := [(o, eMM r mv fr (upd I 0 0) L), ((r 16), aI k 37 sv)]) hP hD hS hA [] [0, 1] rfl rfl rfl (by decide) (xrS ⟨hx, hb, hml, hown, hts⟩ hg (m_X8_in l D k _ x 0 16) hP hD [] rfl rfl trivial q1426 q1427 q93 q1428 xo_X8_in ⟨rfl, rfl⟩ ⟨Nat.le_of_ble_eq_true rfl, Nat.le_of_ble_eq_true rfl⟩ hl.1 (Nat.le_of_ble_eq_true rfl) dX8_state_9 ⟨Nat.le_of_ble_eq_true rfl, Nat.le_of_ble_eq_true rfl⟩ rfl) (fun u1 r_ H locs hw hP hD hS hk => ?_)
  obtain ⟨rfl, eu1, bu1⟩ := hw
  replace hP : va_P D vwCl [(o, eMM r mv fr (upd I 0 0) L), ((r 16), aI k 37 sv)] H := hP.sub [0, 1] rfl
  replace hD : va_D A [(o, eMM r mv fr (upd I 0 0) L), ((r 16), aI k 37 sv)] := hD.sub [0, 1] (by decide) rfl
  have Jn1 : ∀ (v4 : (Int32)) (H : Heap) (locs : List Loc) (ls : Array Slot), v4 = f_X8_state_j1 sv x u1 → va_P D vwCl [(o, eMM r mv fr (upd I 0 0) L), ((r 16), aI k 37 sv)] H → va_D A [(o, eMM r mv fr (upd I 0 0) L), ((r 16), aI k 37 sv)] → va_S A s.heap H locs → lv_has ls 2 [(0, .ref o), (1, .int x)] → W p l e rm_X8_state s m ([.ref o, .int x] : List Value).toArray below meth c H locs 0 0 (MQ below (q_X8_state D k o r mv fr I L sv x A) ([.ref o, .int x] : List Value).toArray s 0 0 A) (F0 m 28 ls [.int v4]) := by
    intro v4 H locs ls ev4 hP hD hS hl
    exact xret_i hx hb hr hlocks (Nat.le_of_ble_eq_true rfl) (Nat.le_of_ble_eq_true rfl) hS.2.2 dX8_state_28 (fun t ht => ⟨⟨v4, (v4, 0), rfl, ⟨rfl, (by subst ev4; subst eu1; exact rfl)⟩, by rw [ht]; exact hP, hD⟩, hS.F ht⟩)
  refine lv_if_eq (tgt := 27) hx hb dX8_state_12 (by decide) (fun c5 => ?_) (fun c5 => ?_)
  · refine lv_iconst (v := (-1)) hx hb dX8_state_27 ci_m1 ?_
    exact Jn1 (-1) _ _ _ (by exact Eq.symm (Eq.trans (if_pos c5) (rfl))) hP hD hS (lv_sub hl [0, 1] rfl)
  · obtain ⟨hn_x, hb_x⟩ := m_in0 xl_16 (by decide) (fun h => c5 (eu1.trans h))
    refine lv_aload_n hx hb dX8_state_15 rfl (lv_at hl 0 rfl) ?_
    refine va_get (D := D) (ci := 10) (v := .ref (r 16)) (C := RX8) (T := TX8) (N := 37) hx hb hts in_X8 hown hg.1 hP 0 rfl rfl 16 (Nat.le_of_ble_eq_true rfl) (hts _ q1157) (fun _ h9 => h9) rfl dX8_state_16 ?_
    refine lv_bipush (v := 20) hx hb dX8_state_19 cb_20 ?_
    refine lv_iload_n hx hb dX8_state_21 rfl (lv_at hl 1 rfl) ?_
    refine lv_iadd hx hb dX8_state_22 ?_
    refine xa_iald hx hb hg hP 1 rfl (xnadd xl_20 hn_x) (by first | omega | exact Nat.lt_of_lt_of_le (Nat.mod_lt _ (by omega)) (by omega)) (by omega) dX8_state_23 ?_
    refine lv_goto (tgt := 28) hx hb dX8_state_24 (by decide) ?_
    exact Jn1 (sv (20 + x.toNatClampNeg)) _ _ _ (by exact Eq.symm (Eq.trans (if_neg c5) (rfl))) hP hD hS (lv_sub hl [0, 1] rfl)

def f_X8_program (MI : Nat → Int32) (pR : Nat → Int32) (pW : Nat → Int32) (pO : Nat → Int32) (h0 : Int32) (ra : Int32) (wa : Int32) (oi : Int32) : Int32 × Int32 × Int32 × Int32 × (Nat → Int32) × (Nat → Int32) × (Nat → Int32) :=
  let u1 := f_X8_in h0 0 11
  if u1 = 0 then
    let u3 := f_X8_denied 1
    (u3.1, 0, u3.2.1, u3.2.2, pR, pW, pO)
  else
    let u4 := f_X8_isOre MI oi
    if u4 = 0 then
      let u16 := f_X8_denied 1
      (u16.1, 0, u16.2.1, u16.2.2, pR, pW, pO)
    else
      let u6 := f_X8_in ra 0 3
      if u6 = 0 then
        let u8 := f_X8_denied 2
        (u8.1, 0, u8.2.1, u8.2.2, pR, pW, pO)
      else
        let u9 := f_X8_in wa 0 3
        if u9 = 0 then
          let u15 := f_X8_denied 2
          (u15.1, 0, u15.2.1, u15.2.2, pR, pW, pO)
        else
          let f11 := upd pR h0.toNatClampNeg ra
          let f12 := upd pW h0.toNatClampNeg wa
          let f13 := upd pO h0.toNatClampNeg oi
          let u14 := f_X8_granted
          (u14.1, 0, u14.2.1, u14.2.2, f11, f12, f13)
abbrev q_X8_program (D : va_G) (k : KK) (o : Nat) (r : Nat → Nat) (fr : Value) (I : Nat → Int32) (L : Nat → Int64) (ma : Nat) (mr : Nat → Nat) (MI : Nat → Int32) (pR : Nat → Int32) (pW : Nat → Int32) (pO : Nat → Int32) (h0 : Int32) (ra : Int32) (wa : Int32) (oi : Int32) (A : Nat → Prop) : Array Value → State → Outcome → State → Prop := va_Qi (fun (r_ : Int32) (u : Int32 × Int32 × Int32 × Int32 × (Nat → Int32) × (Nat → Int32) × (Nat → Int32)) => r_ = u.1 ∧ u = f_X8_program MI pR pW pO h0 ra wa oi ∧ (r_ = 0 ∨ r_ = 1)) (bx D (fun u => [(o, eMM r (.ref ma) fr (upd (upd (upd I 0 u.2.1) 1 u.2.2.1) 2 u.2.2.2.1) L), (ma, eMI mr MI), ((r 20), aI k 12 u.2.2.2.2.1), ((r 21), aI k 12 u.2.2.2.2.2.1), ((r 22), aI k 12 u.2.2.2.2.2.2)]) A) A
abbrev rm_X8_program : Room := { frames := 3, cells := 0, slots := 0, locals := 120 }
theorem xo_X8_program : xok yX8_program 4 := by unfold xok; decide +kernel
set_option maxHeartbeats 8000000 in
theorem m_X8_program (l : Launch) (D : va_G) (k : KK) (sz : Nat) (o : Nat) (r : Nat → Nat) (fr : Value) (I : Nat → Int32) (L : Nat → Int64) (ma : Nat) (mr : Nat → Nat) (MI : Nat → Int32) (pR : Nat → Int32) (pW : Nat → Int32) (pO : Nat → Int32) (h0 : Int32) (ra : Int32) (wa : Int32) (oi : Int32)  : Met l yX8_program (ws_ yX8_program cX8_program 5 (some .boolean)) rm_X8_program (pcx D k [.ref o, .int h0, .int ra, .int wa, .int oi] sz [(o, eMM r (.ref ma) fr I L), (ma, eMI mr MI), ((r 20), aI k 12 pR), ((r 21), aI k 12 pW), ((r 22), aI k 12 pO)] (fun _ => True)) (q_X8_program D k o r fr I L ma mr MI pR pW pO h0 ra wa oi (va_A [(o, eMM r (.ref ma) fr I L), (ma, eMI mr MI), ((r 20), aI k 12 pR), ((r 21), aI k 12 pW), ((r 22), aI k 12 pO)] sz)) 0 0 (va_A [(o, eMM r (.ref ma) fr I L), (ma, eMI mr MI), ((r 20), aI k 12 pR), ((r 21), aI k 12 pW), ((r 22), aI k 12 pO)] sz) := by
  refine Met.start (Qc := q_X8_program D k o r fr I L ma mr MI pR pW pO h0 ra wa oi) (by decide) (Nat.le_of_ble_eq_true rfl) ?_
  intro p e s m below meth c A hx hb hr hlocks hml hown hin hts hg hP hD hA hAn hS hY hsz ls hl
  have hown : s.vm.findClass RX8 = some m.cls := hown
  have hl : lv_has ls 5 [(0, .ref o), (1, .int h0), (2, .int ra), (3, .int wa), (4, .int oi)] := hl
  refine lv_aload_n hx hb dX8_program_0 rfl (lv_at hl 0 rfl) ?_
  refine lv_iconst (v := 0) hx hb dX8_program_1 ci_0 ?_
  refine va_put (D := D) (ci := 10) (v := .int 0) (C := RX8) (T := TX8) (N := 37) hx hb hts in_X8 tyX8 tyX8_ok nmX8 hown hg.1 hP hD hS 0 rfl rfl 0 (Nat.le_of_ble_eq_true rfl) (hts _ q1141) (fun _ h9 => h9) rfl ftX8_0 rfl rfl (Nat.le_of_ble_eq_true rfl) dX8_program_2 (fun H locs hP hD hS => ?_)
  replace hP : va_P D vwCl [(o, eMM r (.ref ma) fr (upd I 0 0) L), (ma, eMI mr MI), ((r 20), aI k 12 pR), ((r 21), aI k 12 pW), ((r 22), aI k 12 pO)] H := hP
  replace hD : va_D A [(o, eMM r (.ref ma) fr (upd I 0 0) L), (ma, eMI mr MI), ((r 20), aI k 12 pR), ((r 21), aI k 12 pW), ((r 22), aI k 12 pO)] := hD
  refine lv_iload_n hx hb dX8_program_5 rfl (lv_at hl 1 rfl) ?_
  refine lv_iconst (v := 0) hx hb dX8_program_6 ci_0 ?_
  refine lv_bipush (v := 11) hx hb dX8_program_7 cb_11 ?_
  refine xc_i (wc := []) (wr := [(o, eMM r (.ref ma) fr (upd I 0 0) L), (ma, eMI mr MI), ((r 20), aI k 12 pR), ((r 21), aI k 12 pW), ((r 22), aI k 12 pO)]) hP hD hS hA [] [0, 1, 2, 3, 4] rfl rfl rfl (by decide) (xrS ⟨hx, hb, hml, hown, hts⟩ hg (m_X8_in l D k _ h0 0 11) hP hD [] rfl rfl trivial q1426 q1427 q93 q1428 xo_X8_in ⟨rfl, rfl⟩ ⟨Nat.le_of_ble_eq_true rfl, Nat.le_of_ble_eq_true rfl⟩ hl.1 (Nat.le_of_ble_eq_true rfl) dX8_program_9 ⟨Nat.le_of_ble_eq_true rfl, Nat.le_of_ble_eq_true rfl⟩ rfl) (fun u1 r_ H locs hw hP hD hS hk => ?_)
  obtain ⟨rfl, eu1, bu1⟩ := hw
  replace hP : va_P D vwCl [(o, eMM r (.ref ma) fr (upd I 0 0) L), (ma, eMI mr MI), ((r 20), aI k 12 pR), ((r 21), aI k 12 pW), ((r 22), aI k 12 pO)] H := hP.sub [0, 1, 2, 3, 4] rfl
  replace hD : va_D A [(o, eMM r (.ref ma) fr (upd I 0 0) L), (ma, eMI mr MI), ((r 20), aI k 12 pR), ((r 21), aI k 12 pW), ((r 22), aI k 12 pO)] := hD.sub [0, 1, 2, 3, 4] (by decide) rfl
  refine lv_if_eq (tgt := 24) hx hb dX8_program_12 (by decide) (fun c2 => ?_) (fun c2 => ?_)
  · refine lv_aload_n hx hb dX8_program_24 rfl (lv_at hl 0 rfl) ?_
    refine lv_iconst (v := 1) hx hb dX8_program_25 ci_1 ?_
    refine xc_i (wc := [(o, eMM r (.ref ma) fr (upd I 0 0) L)]) (wr := [(ma, eMI mr MI), ((r 20), aI k 12 pR), ((r 21), aI k 12 pW), ((r 22), aI k 12 pO)]) hP hD hS hA [0] [1, 2, 3, 4] rfl rfl rfl (by decide) (xrV ⟨hx, hb, hml, hown, hts⟩ hg (m_X8_denied l D k _ o r (.ref ma) fr (upd I 0 0) L 1) hP hD [0] rfl rfl trivial (ci := 10) (q0 := 0) rfl rfl rfl q1502 q1504 qs62 q93 q1505 xo_X8_denied ⟨rfl, rfl⟩ ⟨Nat.le_of_ble_eq_true rfl, Nat.le_of_ble_eq_true rfl⟩ hl.1 (Nat.le_of_ble_eq_true rfl) dX8_program_26 ⟨Nat.le_of_ble_eq_true rfl, Nat.le_of_ble_eq_true rfl⟩ rfl) (fun r_ u3 H locs hw hP hD hS hk => ?_)
    obtain ⟨rfl, eu3, bu3⟩ := hw
    replace hP : va_P D vwCl [(o, eMM r (.ref ma) fr (upd (upd (upd I 0 0) 1 u3.2.1) 2 u3.2.2) L), (ma, eMI mr MI), ((r 20), aI k 12 pR), ((r 21), aI k 12 pW), ((r 22), aI k 12 pO)] H := hP.sub [4, 0, 1, 2, 3] rfl
    replace hD : va_D A [(o, eMM r (.ref ma) fr (upd (upd (upd I 0 0) 1 u3.2.1) 2 u3.2.2) L), (ma, eMI mr MI), ((r 20), aI k 12 pR), ((r 21), aI k 12 pW), ((r 22), aI k 12 pO)] := hD.sub [4, 0, 1, 2, 3] (by decide) rfl
    exact xret_z hx hb hr hlocks (Nat.le_of_ble_eq_true rfl) (Nat.le_of_ble_eq_true rfl) hS.2.2 dX8_program_29 bu3 (fun t ht => ⟨⟨u3.1, (u3.1, 0, u3.2.1, u3.2.2, pR, pW, pO), rfl, ⟨rfl, (by subst eu3; subst eu1; exact Eq.symm (Eq.trans (if_pos c2) (rfl))), bu3⟩, by rw [ht]; exact hP, hD⟩, hS.F ht⟩)
  · obtain ⟨hn_h0, hb_h0⟩ := m_in0 xl_11 (by decide) (fun h => c2 (eu1.trans h))
    refine lv_aload_n hx hb dX8_program_15 rfl (lv_at hl 0 rfl) ?_
    refine lv_iload hx hb dX8_program_16 (lv_at hl 4 rfl) ?_
    refine xc_i (wc := [(o, eMM r (.ref ma) fr (upd I 0 0) L), (ma, eMI mr MI)]) (wr := [((r 20), aI k 12 pR), ((r 21), aI k 12 pW), ((r 22), aI k 12 pO)]) hP hD hS hA [0, 1] [2, 3, 4] rfl rfl rfl (by decide) (xrV ⟨hx, hb, hml, hown, hts⟩ hg (m_X8_isOre l D k _ o r fr (upd I 0 0) L ma mr MI oi) hP hD [0, 1] rfl rfl trivial (ci := 10) (q0 := 0) rfl rfl rfl q1498 q1500 qs61 q93 q1501 xo_X8_isOre ⟨rfl, rfl⟩ ⟨Nat.le_of_ble_eq_true rfl, Nat.le_of_ble_eq_true rfl⟩ hl.1 (Nat.le_of_ble_eq_true rfl) dX8_program_18 ⟨Nat.le_of_ble_eq_true rfl, Nat.le_of_ble_eq_true rfl⟩ rfl) (fun u4 r_ H locs hw hP hD hS hk => ?_)
    obtain ⟨rfl, eu4, bu4⟩ := hw
    replace hP : va_P D vwCl [(o, eMM r (.ref ma) fr (upd I 0 0) L), (ma, eMI mr MI), ((r 20), aI k 12 pR), ((r 21), aI k 12 pW), ((r 22), aI k 12 pO)] H := hP.sub [3, 4, 0, 1, 2] rfl
    replace hD : va_D A [(o, eMM r (.ref ma) fr (upd I 0 0) L), (ma, eMI mr MI), ((r 20), aI k 12 pR), ((r 21), aI k 12 pW), ((r 22), aI k 12 pO)] := hD.sub [3, 4, 0, 1, 2] (by decide) rfl
    refine lv_if_ne (tgt := 30) hx hb dX8_program_21 (by decide) (fun c5 => ?_) (fun c5 => ?_)
    · refine lv_iload_n hx hb dX8_program_30 rfl (lv_at hl 2 rfl) ?_
      refine lv_iconst (v := 0) hx hb dX8_program_31 ci_0 ?_
      refine lv_iconst (v := 3) hx hb dX8_program_32 ci_3 ?_
      refine xc_i (wc := []) (wr := [(o, eMM r (.ref ma) fr (upd I 0 0) L), (ma, eMI mr MI), ((r 20), aI k 12 pR), ((r 21), aI k 12 pW), ((r 22), aI k 12 pO)]) hP hD hS hA [] [0, 1, 2, 3, 4] rfl rfl rfl (by decide) (xrS ⟨hx, hb, hml, hown, hts⟩ hg (m_X8_in l D k _ ra 0 3) hP hD [] rfl rfl trivial q1426 q1427 q93 q1428 xo_X8_in ⟨rfl, rfl⟩ ⟨Nat.le_of_ble_eq_true rfl, Nat.le_of_ble_eq_true rfl⟩ hl.1 (Nat.le_of_ble_eq_true rfl) dX8_program_33 ⟨Nat.le_of_ble_eq_true rfl, Nat.le_of_ble_eq_true rfl⟩ rfl) (fun u6 r_ H locs hw hP hD hS hk => ?_)
      obtain ⟨rfl, eu6, bu6⟩ := hw
      replace hP : va_P D vwCl [(o, eMM r (.ref ma) fr (upd I 0 0) L), (ma, eMI mr MI), ((r 20), aI k 12 pR), ((r 21), aI k 12 pW), ((r 22), aI k 12 pO)] H := hP.sub [0, 1, 2, 3, 4] rfl
      replace hD : va_D A [(o, eMM r (.ref ma) fr (upd I 0 0) L), (ma, eMI mr MI), ((r 20), aI k 12 pR), ((r 21), aI k 12 pW), ((r 22), aI k 12 pO)] := hD.sub [0, 1, 2, 3, 4] (by decide) rfl
      refine lv_if_eq (tgt := 48) hx hb dX8_program_36 (by decide) (fun c7 => ?_) (fun c7 => ?_)
      · refine lv_aload_n hx hb dX8_program_48 rfl (lv_at hl 0 rfl) ?_
        refine lv_iconst (v := 2) hx hb dX8_program_49 ci_2 ?_
        refine xc_i (wc := [(o, eMM r (.ref ma) fr (upd I 0 0) L)]) (wr := [(ma, eMI mr MI), ((r 20), aI k 12 pR), ((r 21), aI k 12 pW), ((r 22), aI k 12 pO)]) hP hD hS hA [0] [1, 2, 3, 4] rfl rfl rfl (by decide) (xrV ⟨hx, hb, hml, hown, hts⟩ hg (m_X8_denied l D k _ o r (.ref ma) fr (upd I 0 0) L 2) hP hD [0] rfl rfl trivial (ci := 10) (q0 := 0) rfl rfl rfl q1502 q1504 qs62 q93 q1505 xo_X8_denied ⟨rfl, rfl⟩ ⟨Nat.le_of_ble_eq_true rfl, Nat.le_of_ble_eq_true rfl⟩ hl.1 (Nat.le_of_ble_eq_true rfl) dX8_program_50 ⟨Nat.le_of_ble_eq_true rfl, Nat.le_of_ble_eq_true rfl⟩ rfl) (fun r_ u8 H locs hw hP hD hS hk => ?_)
        obtain ⟨rfl, eu8, bu8⟩ := hw
        replace hP : va_P D vwCl [(o, eMM r (.ref ma) fr (upd (upd (upd I 0 0) 1 u8.2.1) 2 u8.2.2) L), (ma, eMI mr MI), ((r 20), aI k 12 pR), ((r 21), aI k 12 pW), ((r 22), aI k 12 pO)] H := hP.sub [4, 0, 1, 2, 3] rfl
        replace hD : va_D A [(o, eMM r (.ref ma) fr (upd (upd (upd I 0 0) 1 u8.2.1) 2 u8.2.2) L), (ma, eMI mr MI), ((r 20), aI k 12 pR), ((r 21), aI k 12 pW), ((r 22), aI k 12 pO)] := hD.sub [4, 0, 1, 2, 3] (by decide) rfl
        exact xret_z hx hb hr hlocks (Nat.le_of_ble_eq_true rfl) (Nat.le_of_ble_eq_true rfl) hS.2.2 dX8_program_53 bu8 (fun t ht => ⟨⟨u8.1, (u8.1, 0, u8.2.1, u8.2.2, pR, pW, pO), rfl, ⟨rfl, (by subst eu8; subst eu6; subst eu4; subst eu1; exact Eq.symm (Eq.trans (if_neg c2) (Eq.trans (if_neg c5) (Eq.trans (if_pos c7) (rfl))))), bu8⟩, by rw [ht]; exact hP, hD⟩, hS.F ht⟩)
      · refine lv_iload_n hx hb dX8_program_39 rfl (lv_at hl 3 rfl) ?_
        refine lv_iconst (v := 0) hx hb dX8_program_40 ci_0 ?_
        refine lv_iconst (v := 3) hx hb dX8_program_41 ci_3 ?_
        refine xc_i (wc := []) (wr := [(o, eMM r (.ref ma) fr (upd I 0 0) L), (ma, eMI mr MI), ((r 20), aI k 12 pR), ((r 21), aI k 12 pW), ((r 22), aI k 12 pO)]) hP hD hS hA [] [0, 1, 2, 3, 4] rfl rfl rfl (by decide) (xrS ⟨hx, hb, hml, hown, hts⟩ hg (m_X8_in l D k _ wa 0 3) hP hD [] rfl rfl trivial q1426 q1427 q93 q1428 xo_X8_in ⟨rfl, rfl⟩ ⟨Nat.le_of_ble_eq_true rfl, Nat.le_of_ble_eq_true rfl⟩ hl.1 (Nat.le_of_ble_eq_true rfl) dX8_program_42 ⟨Nat.le_of_ble_eq_true rfl, Nat.le_of_ble_eq_true rfl⟩ rfl) (fun u9 r_ H locs hw hP hD hS hk => ?_)
        obtain ⟨rfl, eu9, bu9⟩ := hw
        replace hP : va_P D vwCl [(o, eMM r (.ref ma) fr (upd I 0 0) L), (ma, eMI mr MI), ((r 20), aI k 12 pR), ((r 21), aI k 12 pW), ((r 22), aI k 12 pO)] H := hP.sub [0, 1, 2, 3, 4] rfl
        replace hD : va_D A [(o, eMM r (.ref ma) fr (upd I 0 0) L), (ma, eMI mr MI), ((r 20), aI k 12 pR), ((r 21), aI k 12 pW), ((r 22), aI k 12 pO)] := hD.sub [0, 1, 2, 3, 4] (by decide) rfl
        refine lv_if_ne (tgt := 54) hx hb dX8_program_45 (by decide) (fun c10 => ?_) (fun c10 => ?_)
        · refine lv_aload_n hx hb dX8_program_54 rfl (lv_at hl 0 rfl) ?_
          refine va_get (D := D) (ci := 10) (v := .ref (r 20)) (C := RX8) (T := TX8) (N := 37) hx hb hts in_X8 hown hg.1 hP 0 rfl rfl 20 (Nat.le_of_ble_eq_true rfl) (hts _ q1161) (fun _ h9 => h9) rfl dX8_program_55 ?_
          refine lv_iload_n hx hb dX8_program_58 rfl (lv_at hl 1 rfl) ?_
          refine lv_iload_n hx hb dX8_program_59 rfl (lv_at hl 2 rfl) ?_
          refine xa_iast hx hb hg hP hD hS 2 rfl hn_h0 (by omega) (by omega) dX8_program_60 (fun f11 H locs ef11 hP hD hS => ?_)
          replace hP : va_P D vwCl [(o, eMM r (.ref ma) fr (upd I 0 0) L), (ma, eMI mr MI), ((r 20), aI k 12 f11), ((r 21), aI k 12 pW), ((r 22), aI k 12 pO)] H := hP
          replace hD : va_D A [(o, eMM r (.ref ma) fr (upd I 0 0) L), (ma, eMI mr MI), ((r 20), aI k 12 f11), ((r 21), aI k 12 pW), ((r 22), aI k 12 pO)] := hD
          refine lv_aload_n hx hb dX8_program_61 rfl (lv_at hl 0 rfl) ?_
          refine va_get (D := D) (ci := 10) (v := .ref (r 21)) (C := RX8) (T := TX8) (N := 37) hx hb hts in_X8 hown hg.1 hP 0 rfl rfl 21 (Nat.le_of_ble_eq_true rfl) (hts _ q1162) (fun _ h9 => h9) rfl dX8_program_62 ?_
          refine lv_iload_n hx hb dX8_program_65 rfl (lv_at hl 1 rfl) ?_
          refine lv_iload_n hx hb dX8_program_66 rfl (lv_at hl 3 rfl) ?_
          refine xa_iast hx hb hg hP hD hS 3 rfl hn_h0 (by omega) (by omega) dX8_program_67 (fun f12 H locs ef12 hP hD hS => ?_)
          replace hP : va_P D vwCl [(o, eMM r (.ref ma) fr (upd I 0 0) L), (ma, eMI mr MI), ((r 20), aI k 12 f11), ((r 21), aI k 12 f12), ((r 22), aI k 12 pO)] H := hP
          replace hD : va_D A [(o, eMM r (.ref ma) fr (upd I 0 0) L), (ma, eMI mr MI), ((r 20), aI k 12 f11), ((r 21), aI k 12 f12), ((r 22), aI k 12 pO)] := hD
          refine lv_aload_n hx hb dX8_program_68 rfl (lv_at hl 0 rfl) ?_
          refine va_get (D := D) (ci := 10) (v := .ref (r 22)) (C := RX8) (T := TX8) (N := 37) hx hb hts in_X8 hown hg.1 hP 0 rfl rfl 22 (Nat.le_of_ble_eq_true rfl) (hts _ q1163) (fun _ h9 => h9) rfl dX8_program_69 ?_
          refine lv_iload_n hx hb dX8_program_72 rfl (lv_at hl 1 rfl) ?_
          refine lv_iload hx hb dX8_program_73 (lv_at hl 4 rfl) ?_
          refine xa_iast hx hb hg hP hD hS 4 rfl hn_h0 (by omega) (by omega) dX8_program_75 (fun f13 H locs ef13 hP hD hS => ?_)
          replace hP : va_P D vwCl [(o, eMM r (.ref ma) fr (upd I 0 0) L), (ma, eMI mr MI), ((r 20), aI k 12 f11), ((r 21), aI k 12 f12), ((r 22), aI k 12 f13)] H := hP
          replace hD : va_D A [(o, eMM r (.ref ma) fr (upd I 0 0) L), (ma, eMI mr MI), ((r 20), aI k 12 f11), ((r 21), aI k 12 f12), ((r 22), aI k 12 f13)] := hD
          refine lv_aload_n hx hb dX8_program_76 rfl (lv_at hl 0 rfl) ?_
          refine xc_i (wc := [(o, eMM r (.ref ma) fr (upd I 0 0) L)]) (wr := [(ma, eMI mr MI), ((r 20), aI k 12 f11), ((r 21), aI k 12 f12), ((r 22), aI k 12 f13)]) hP hD hS hA [0] [1, 2, 3, 4] rfl rfl rfl (by decide) (xrV ⟨hx, hb, hml, hown, hts⟩ hg (m_X8_granted l D k _ o r (.ref ma) fr (upd I 0 0) L) hP hD [0] rfl rfl trivial (ci := 10) (q0 := 0) rfl rfl rfl q1506 q1508 qs63 q93 q1509 xo_X8_granted ⟨rfl, rfl⟩ ⟨Nat.le_of_ble_eq_true rfl, Nat.le_of_ble_eq_true rfl⟩ hl.1 (Nat.le_of_ble_eq_true rfl) dX8_program_77 ⟨Nat.le_of_ble_eq_true rfl, Nat.le_of_ble_eq_true rfl⟩ rfl) (fun r_ u14 H locs hw hP hD hS hk => ?_)
          obtain ⟨rfl, eu14, bu14⟩ := hw
          replace hP : va_P D vwCl [(o, eMM r (.ref ma) fr (upd (upd (upd I 0 0) 1 u14.2.1) 2 u14.2.2) L), (ma, eMI mr MI), ((r 20), aI k 12 f11), ((r 21), aI k 12 f12), ((r 22), aI k 12 f13)] H := hP.sub [4, 0, 1, 2, 3] rfl
          replace hD : va_D A [(o, eMM r (.ref ma) fr (upd (upd (upd I 0 0) 1 u14.2.1) 2 u14.2.2) L), (ma, eMI mr MI), ((r 20), aI k 12 f11), ((r 21), aI k 12 f12), ((r 22), aI k 12 f13)] := hD.sub [4, 0, 1, 2, 3] (by decide) rfl
          exact xret_z hx hb hr hlocks (Nat.le_of_ble_eq_true rfl) (Nat.le_of_ble_eq_true rfl) hS.2.2 dX8_program_80 bu14 (fun t ht => ⟨⟨u14.1, (u14.1, 0, u14.2.1, u14.2.2, f11, f12, f13), rfl, ⟨rfl, (by subst eu14; subst ef13; subst ef12; subst ef11; subst eu9; subst eu6; subst eu4; subst eu1; exact Eq.symm (Eq.trans (if_neg c2) (Eq.trans (if_neg c5) (Eq.trans (if_neg c7) (Eq.trans (if_neg c10) (rfl)))))), bu14⟩, by rw [ht]; exact hP, hD⟩, hS.F ht⟩)
        · refine lv_aload_n hx hb dX8_program_48 rfl (lv_at hl 0 rfl) ?_
          refine lv_iconst (v := 2) hx hb dX8_program_49 ci_2 ?_
          refine xc_i (wc := [(o, eMM r (.ref ma) fr (upd I 0 0) L)]) (wr := [(ma, eMI mr MI), ((r 20), aI k 12 pR), ((r 21), aI k 12 pW), ((r 22), aI k 12 pO)]) hP hD hS hA [0] [1, 2, 3, 4] rfl rfl rfl (by decide) (xrV ⟨hx, hb, hml, hown, hts⟩ hg (m_X8_denied l D k _ o r (.ref ma) fr (upd I 0 0) L 2) hP hD [0] rfl rfl trivial (ci := 10) (q0 := 0) rfl rfl rfl q1502 q1504 qs62 q93 q1505 xo_X8_denied ⟨rfl, rfl⟩ ⟨Nat.le_of_ble_eq_true rfl, Nat.le_of_ble_eq_true rfl⟩ hl.1 (Nat.le_of_ble_eq_true rfl) dX8_program_50 ⟨Nat.le_of_ble_eq_true rfl, Nat.le_of_ble_eq_true rfl⟩ rfl) (fun r_ u15 H locs hw hP hD hS hk => ?_)
          obtain ⟨rfl, eu15, bu15⟩ := hw
          replace hP : va_P D vwCl [(o, eMM r (.ref ma) fr (upd (upd (upd I 0 0) 1 u15.2.1) 2 u15.2.2) L), (ma, eMI mr MI), ((r 20), aI k 12 pR), ((r 21), aI k 12 pW), ((r 22), aI k 12 pO)] H := hP.sub [4, 0, 1, 2, 3] rfl
          replace hD : va_D A [(o, eMM r (.ref ma) fr (upd (upd (upd I 0 0) 1 u15.2.1) 2 u15.2.2) L), (ma, eMI mr MI), ((r 20), aI k 12 pR), ((r 21), aI k 12 pW), ((r 22), aI k 12 pO)] := hD.sub [4, 0, 1, 2, 3] (by decide) rfl
          exact xret_z hx hb hr hlocks (Nat.le_of_ble_eq_true rfl) (Nat.le_of_ble_eq_true rfl) hS.2.2 dX8_program_53 bu15 (fun t ht => ⟨⟨u15.1, (u15.1, 0, u15.2.1, u15.2.2, pR, pW, pO), rfl, ⟨rfl, (by subst eu15; subst eu9; subst eu6; subst eu4; subst eu1; exact Eq.symm (Eq.trans (if_neg c2) (Eq.trans (if_neg c5) (Eq.trans (if_neg c7) (Eq.trans (if_pos c10) (rfl)))))), bu15⟩, by rw [ht]; exact hP, hD⟩, hS.F ht⟩)
    · refine lv_aload_n hx hb dX8_program_24 rfl (lv_at hl 0 rfl) ?_
      refine lv_iconst (v := 1) hx hb dX8_program_25 ci_1 ?_
      refine xc_i (wc := [(o, eMM r (.ref ma) fr (upd I 0 0) L)]) (wr := [(ma, eMI mr MI), ((r 20), aI k 12 pR), ((r 21), aI k 12 pW), ((r 22), aI k 12 pO)]) hP hD hS hA [0] [1, 2, 3, 4] rfl rfl rfl (by decide) (xrV ⟨hx, hb, hml, hown, hts⟩ hg (m_X8_denied l D k _ o r (.ref ma) fr (upd I 0 0) L 1) hP hD [0] rfl rfl trivial (ci := 10) (q0 := 0) rfl rfl rfl q1502 q1504 qs62 q93 q1505 xo_X8_denied ⟨rfl, rfl⟩ ⟨Nat.le_of_ble_eq_true rfl, Nat.le_of_ble_eq_true rfl⟩ hl.1 (Nat.le_of_ble_eq_true rfl) dX8_program_26 ⟨Nat.le_of_ble_eq_true rfl, Nat.le_of_ble_eq_true rfl⟩ rfl) (fun r_ u16 H locs hw hP hD hS hk => ?_)
      obtain ⟨rfl, eu16, bu16⟩ := hw
      replace hP : va_P D vwCl [(o, eMM r (.ref ma) fr (upd (upd (upd I 0 0) 1 u16.2.1) 2 u16.2.2) L), (ma, eMI mr MI), ((r 20), aI k 12 pR), ((r 21), aI k 12 pW), ((r 22), aI k 12 pO)] H := hP.sub [4, 0, 1, 2, 3] rfl
      replace hD : va_D A [(o, eMM r (.ref ma) fr (upd (upd (upd I 0 0) 1 u16.2.1) 2 u16.2.2) L), (ma, eMI mr MI), ((r 20), aI k 12 pR), ((r 21), aI k 12 pW), ((r 22), aI k 12 pO)] := hD.sub [4, 0, 1, 2, 3] (by decide) rfl
      exact xret_z hx hb hr hlocks (Nat.le_of_ble_eq_true rfl) (Nat.le_of_ble_eq_true rfl) hS.2.2 dX8_program_29 bu16 (fun t ht => ⟨⟨u16.1, (u16.1, 0, u16.2.1, u16.2.2, pR, pW, pO), rfl, ⟨rfl, (by subst eu16; subst eu4; subst eu1; exact Eq.symm (Eq.trans (if_neg c2) (Eq.trans (if_pos c5) (rfl)))), bu16⟩, by rw [ht]; exact hP, hD⟩, hS.F ht⟩)

def f_X8_programN (h0 : Int32) : Int32 × Int32 × Int32 × Int32 :=
  let u1 := f_X8_in h0 0 11
  if u1 = 0 then
    let u3 := f_X8_denied 1
    (u3.1, 0, u3.2.1, u3.2.2)
  else
    let u4 := f_X8_isOreN
    let u5 := f_X8_denied 1
    (u5.1, 0, u5.2.1, u5.2.2)
abbrev q_X8_programN (D : va_G) (k : KK) (o : Nat) (r : Nat → Nat) (fr : Value) (I : Nat → Int32) (L : Nat → Int64) (pR : Nat → Int32) (pW : Nat → Int32) (pO : Nat → Int32) (h0 : Int32) (ra : Int32) (wa : Int32) (oi : Int32) (A : Nat → Prop) : Array Value → State → Outcome → State → Prop := va_Qi (fun (r_ : Int32) (u : Int32 × Int32 × Int32 × Int32) => r_ = u.1 ∧ u = f_X8_programN h0 ∧ (r_ = 0 ∨ r_ = 1)) (bx D (fun u => [(o, eMM r .null fr (upd (upd (upd I 0 u.2.1) 1 u.2.2.1) 2 u.2.2.2) L), ((r 20), aI k 12 pR), ((r 21), aI k 12 pW), ((r 22), aI k 12 pO)]) A) A
abbrev rm_X8_programN : Room := { frames := 3, cells := 0, slots := 0, locals := 120 }
set_option maxHeartbeats 8000000 in
theorem m_X8_programN (l : Launch) (D : va_G) (k : KK) (sz : Nat) (o : Nat) (r : Nat → Nat) (fr : Value) (I : Nat → Int32) (L : Nat → Int64) (pR : Nat → Int32) (pW : Nat → Int32) (pO : Nat → Int32) (h0 : Int32) (ra : Int32) (wa : Int32) (oi : Int32)  : Met l yX8_program (ws_ yX8_program cX8_program 5 (some .boolean)) rm_X8_programN (pcx D k [.ref o, .int h0, .int ra, .int wa, .int oi] sz [(o, eMM r .null fr I L), ((r 20), aI k 12 pR), ((r 21), aI k 12 pW), ((r 22), aI k 12 pO)] (fun _ => True)) (q_X8_programN D k o r fr I L pR pW pO h0 ra wa oi (va_A [(o, eMM r .null fr I L), ((r 20), aI k 12 pR), ((r 21), aI k 12 pW), ((r 22), aI k 12 pO)] sz)) 0 0 (va_A [(o, eMM r .null fr I L), ((r 20), aI k 12 pR), ((r 21), aI k 12 pW), ((r 22), aI k 12 pO)] sz) := by
  refine Met.start (Qc := q_X8_programN D k o r fr I L pR pW pO h0 ra wa oi) (by decide) (Nat.le_of_ble_eq_true rfl) ?_
  intro p e s m below meth c A hx hb hr hlocks hml hown hin hts hg hP hD hA hAn hS hY hsz ls hl
  have hown : s.vm.findClass RX8 = some m.cls := hown
  have hl : lv_has ls 5 [(0, .ref o), (1, .int h0), (2, .int ra), (3, .int wa), (4, .int oi)] := hl
  refine lv_aload_n hx hb dX8_program_0 rfl (lv_at hl 0 rfl) ?_
  refine lv_iconst (v := 0) hx hb dX8_program_1 ci_0 ?_
  refine va_put (D := D) (ci := 10) (v := .int 0) (C := RX8) (T := TX8) (N := 37) hx hb hts in_X8 tyX8 tyX8_ok nmX8 hown hg.1 hP hD hS 0 rfl rfl 0 (Nat.le_of_ble_eq_true rfl) (hts _ q1141) (fun _ h9 => h9) rfl ftX8_0 rfl rfl (Nat.le_of_ble_eq_true rfl) dX8_program_2 (fun H locs hP hD hS => ?_)
  replace hP : va_P D vwCl [(o, eMM r .null fr (upd I 0 0) L), ((r 20), aI k 12 pR), ((r 21), aI k 12 pW), ((r 22), aI k 12 pO)] H := hP
  replace hD : va_D A [(o, eMM r .null fr (upd I 0 0) L), ((r 20), aI k 12 pR), ((r 21), aI k 12 pW), ((r 22), aI k 12 pO)] := hD
  refine lv_iload_n hx hb dX8_program_5 rfl (lv_at hl 1 rfl) ?_
  refine lv_iconst (v := 0) hx hb dX8_program_6 ci_0 ?_
  refine lv_bipush (v := 11) hx hb dX8_program_7 cb_11 ?_
  refine xc_i (wc := []) (wr := [(o, eMM r .null fr (upd I 0 0) L), ((r 20), aI k 12 pR), ((r 21), aI k 12 pW), ((r 22), aI k 12 pO)]) hP hD hS hA [] [0, 1, 2, 3] rfl rfl rfl (by decide) (xrS ⟨hx, hb, hml, hown, hts⟩ hg (m_X8_in l D k _ h0 0 11) hP hD [] rfl rfl trivial q1426 q1427 q93 q1428 xo_X8_in ⟨rfl, rfl⟩ ⟨Nat.le_of_ble_eq_true rfl, Nat.le_of_ble_eq_true rfl⟩ hl.1 (Nat.le_of_ble_eq_true rfl) dX8_program_9 ⟨Nat.le_of_ble_eq_true rfl, Nat.le_of_ble_eq_true rfl⟩ rfl) (fun u1 r_ H locs hw hP hD hS hk => ?_)
  obtain ⟨rfl, eu1, bu1⟩ := hw
  replace hP : va_P D vwCl [(o, eMM r .null fr (upd I 0 0) L), ((r 20), aI k 12 pR), ((r 21), aI k 12 pW), ((r 22), aI k 12 pO)] H := hP.sub [0, 1, 2, 3] rfl
  replace hD : va_D A [(o, eMM r .null fr (upd I 0 0) L), ((r 20), aI k 12 pR), ((r 21), aI k 12 pW), ((r 22), aI k 12 pO)] := hD.sub [0, 1, 2, 3] (by decide) rfl
  refine lv_if_eq (tgt := 24) hx hb dX8_program_12 (by decide) (fun c2 => ?_) (fun c2 => ?_)
  · refine lv_aload_n hx hb dX8_program_24 rfl (lv_at hl 0 rfl) ?_
    refine lv_iconst (v := 1) hx hb dX8_program_25 ci_1 ?_
    refine xc_i (wc := [(o, eMM r .null fr (upd I 0 0) L)]) (wr := [((r 20), aI k 12 pR), ((r 21), aI k 12 pW), ((r 22), aI k 12 pO)]) hP hD hS hA [0] [1, 2, 3] rfl rfl rfl (by decide) (xrV ⟨hx, hb, hml, hown, hts⟩ hg (m_X8_denied l D k _ o r .null fr (upd I 0 0) L 1) hP hD [0] rfl rfl trivial (ci := 10) (q0 := 0) rfl rfl rfl q1502 q1504 qs62 q93 q1505 xo_X8_denied ⟨rfl, rfl⟩ ⟨Nat.le_of_ble_eq_true rfl, Nat.le_of_ble_eq_true rfl⟩ hl.1 (Nat.le_of_ble_eq_true rfl) dX8_program_26 ⟨Nat.le_of_ble_eq_true rfl, Nat.le_of_ble_eq_true rfl⟩ rfl) (fun r_ u3 H locs hw hP hD hS hk => ?_)
    obtain ⟨rfl, eu3, bu3⟩ := hw
    replace hP : va_P D vwCl [(o, eMM r .null fr (upd (upd (upd I 0 0) 1 u3.2.1) 2 u3.2.2) L), ((r 20), aI k 12 pR), ((r 21), aI k 12 pW), ((r 22), aI k 12 pO)] H := hP.sub [3, 0, 1, 2] rfl
    replace hD : va_D A [(o, eMM r .null fr (upd (upd (upd I 0 0) 1 u3.2.1) 2 u3.2.2) L), ((r 20), aI k 12 pR), ((r 21), aI k 12 pW), ((r 22), aI k 12 pO)] := hD.sub [3, 0, 1, 2] (by decide) rfl
    exact xret_z hx hb hr hlocks (Nat.le_of_ble_eq_true rfl) (Nat.le_of_ble_eq_true rfl) hS.2.2 dX8_program_29 bu3 (fun t ht => ⟨⟨u3.1, (u3.1, 0, u3.2.1, u3.2.2), rfl, ⟨rfl, (by subst eu3; subst eu1; exact Eq.symm (Eq.trans (if_pos c2) (rfl))), bu3⟩, by rw [ht]; exact hP, hD⟩, hS.F ht⟩)
  · refine lv_aload_n hx hb dX8_program_15 rfl (lv_at hl 0 rfl) ?_
    refine lv_iload hx hb dX8_program_16 (lv_at hl 4 rfl) ?_
    refine xc_i (wc := [(o, eMM r .null fr (upd I 0 0) L)]) (wr := [((r 20), aI k 12 pR), ((r 21), aI k 12 pW), ((r 22), aI k 12 pO)]) hP hD hS hA [0] [1, 2, 3] rfl rfl rfl (by decide) (xrV ⟨hx, hb, hml, hown, hts⟩ hg (m_X8_isOreN l D k _ o r fr (upd I 0 0) L oi) hP hD [0] rfl rfl trivial (ci := 10) (q0 := 0) rfl rfl rfl q1498 q1500 qs61 q93 q1501 xo_X8_isOre ⟨rfl, rfl⟩ ⟨Nat.le_of_ble_eq_true rfl, Nat.le_of_ble_eq_true rfl⟩ hl.1 (Nat.le_of_ble_eq_true rfl) dX8_program_18 ⟨Nat.le_of_ble_eq_true rfl, Nat.le_of_ble_eq_true rfl⟩ rfl) (fun u4 r_ H locs hw hP hD hS hk => ?_)
    obtain ⟨rfl, eu4, bu4⟩ := hw
    replace hP : va_P D vwCl [(o, eMM r .null fr (upd I 0 0) L), ((r 20), aI k 12 pR), ((r 21), aI k 12 pW), ((r 22), aI k 12 pO)] H := hP.sub [3, 0, 1, 2] rfl
    replace hD : va_D A [(o, eMM r .null fr (upd I 0 0) L), ((r 20), aI k 12 pR), ((r 21), aI k 12 pW), ((r 22), aI k 12 pO)] := hD.sub [3, 0, 1, 2] (by decide) rfl
    refine lv_if_ne (tgt := 30) hx hb dX8_program_21 (by decide) (fun c => absurd ((eu4).trans rfl) c) (fun _ => ?_)
    refine lv_aload_n hx hb dX8_program_24 rfl (lv_at hl 0 rfl) ?_
    refine lv_iconst (v := 1) hx hb dX8_program_25 ci_1 ?_
    refine xc_i (wc := [(o, eMM r .null fr (upd I 0 0) L)]) (wr := [((r 20), aI k 12 pR), ((r 21), aI k 12 pW), ((r 22), aI k 12 pO)]) hP hD hS hA [0] [1, 2, 3] rfl rfl rfl (by decide) (xrV ⟨hx, hb, hml, hown, hts⟩ hg (m_X8_denied l D k _ o r .null fr (upd I 0 0) L 1) hP hD [0] rfl rfl trivial (ci := 10) (q0 := 0) rfl rfl rfl q1502 q1504 qs62 q93 q1505 xo_X8_denied ⟨rfl, rfl⟩ ⟨Nat.le_of_ble_eq_true rfl, Nat.le_of_ble_eq_true rfl⟩ hl.1 (Nat.le_of_ble_eq_true rfl) dX8_program_26 ⟨Nat.le_of_ble_eq_true rfl, Nat.le_of_ble_eq_true rfl⟩ rfl) (fun r_ u5 H locs hw hP hD hS hk => ?_)
    obtain ⟨rfl, eu5, bu5⟩ := hw
    replace hP : va_P D vwCl [(o, eMM r .null fr (upd (upd (upd I 0 0) 1 u5.2.1) 2 u5.2.2) L), ((r 20), aI k 12 pR), ((r 21), aI k 12 pW), ((r 22), aI k 12 pO)] H := hP.sub [3, 0, 1, 2] rfl
    replace hD : va_D A [(o, eMM r .null fr (upd (upd (upd I 0 0) 1 u5.2.1) 2 u5.2.2) L), ((r 20), aI k 12 pR), ((r 21), aI k 12 pW), ((r 22), aI k 12 pO)] := hD.sub [3, 0, 1, 2] (by decide) rfl
    exact xret_z hx hb hr hlocks (Nat.le_of_ble_eq_true rfl) (Nat.le_of_ble_eq_true rfl) hS.2.2 dX8_program_29 bu5 (fun t ht => ⟨⟨u5.1, (u5.1, 0, u5.2.1, u5.2.2), rfl, ⟨rfl, (by subst eu5; subst eu4; subst eu1; exact Eq.symm (Eq.trans (if_neg c2) (rfl))), bu5⟩, by rw [ht]; exact hP, hD⟩, hS.F ht⟩)

def f_X8_seen (I : Nat → Int32) (MI : Nat → Int32) (qH : Nat → Int32) (qW : Nat → Int32) (qV : Nat → Int32) (qO : Nat → Int32) (h0 : Int32) (wh : Int32) (va : Int32) (of : Int32) (sn : Nat) : Int32 × Int32 × Int32 × Int32 × Int32 × (Nat → Int32) × (Nat → Int32) × (Nat → Int32) × (Nat → Int32) :=
  let u1 := f_X8_isWhat MI h0 wh
  if u1 = 0 then
    let u17 := f_X8_refused 1
    (u17.1, 0, u17.2.1, u17.2.2, (I 23), qH, qW, qV, qO)
  else
    let u3 := f_X8_in va 0 999999
    if u3 = 0 then
      let u5 := f_X8_refused 2
      (u5.1, 0, u5.2.1, u5.2.2, (I 23), qH, qW, qV, qO)
    else
      let u6 := f_X8_in of 0 999
      if u6 = 0 then
        let u16 := f_X8_refused 2
        (u16.1, 0, u16.2.1, u16.2.2, (I 23), qH, qW, qV, qO)
      else
        if (I 23) = 24 then
          let u15 := f_X8_refused 3
          (u15.1, 0, u15.2.1, u15.2.2, (I 23), qH, qW, qV, qO)
        else
          let f9 := upd qH sn h0
          let f10 := upd qW sn wh
          let f11 := upd qV sn va
          let f12 := upd qO sn of
          let x13 := ((I 23) + 1)
          let u14 := f_X8_done x13
          (u14.1, 0, u14.2.1, u14.2.2, x13, f9, f10, f11, f12)
abbrev q_X8_seen (D : va_G) (k : KK) (o : Nat) (r : Nat → Nat) (fr : Value) (I : Nat → Int32) (L : Nat → Int64) (ma : Nat) (mr : Nat → Nat) (MI : Nat → Int32) (qH : Nat → Int32) (qW : Nat → Int32) (qV : Nat → Int32) (qO : Nat → Int32) (h0 : Int32) (wh : Int32) (va : Int32) (of : Int32) (sn : Nat) (A : Nat → Prop) : Array Value → State → Outcome → State → Prop := va_Qi (fun (r_ : Int32) (u : Int32 × Int32 × Int32 × Int32 × Int32 × (Nat → Int32) × (Nat → Int32) × (Nat → Int32) × (Nat → Int32)) => r_ = u.1 ∧ u = f_X8_seen I MI qH qW qV qO h0 wh va of sn) (bx D (fun u => [(o, eMM r (.ref ma) fr (upd (upd (upd (upd I 0 u.2.1) 1 u.2.2.1) 2 u.2.2.2.1) 23 u.2.2.2.2.1) L), (ma, eMI mr MI), ((r 24), aI k 24 u.2.2.2.2.2.1), ((r 25), aI k 24 u.2.2.2.2.2.2.1), ((r 26), aI k 24 u.2.2.2.2.2.2.2.1), ((r 27), aI k 24 u.2.2.2.2.2.2.2.2)]) A) A
abbrev rm_X8_seen : Room := { frames := 3, cells := 0, slots := 0, locals := 120 }
theorem xo_X8_seen : xok yX8_seen 4 := by unfold xok; decide +kernel
set_option maxHeartbeats 8000000 in
theorem m_X8_seen (l : Launch) (D : va_G) (k : KK) (sz : Nat) (o : Nat) (r : Nat → Nat) (fr : Value) (I : Nat → Int32) (L : Nat → Int64) (ma : Nat) (mr : Nat → Nat) (MI : Nat → Int32) (qH : Nat → Int32) (qW : Nat → Int32) (qV : Nat → Int32) (qO : Nat → Int32) (h0 : Int32) (wh : Int32) (va : Int32) (of : Int32) (sn : Nat) (hsn : I 23 = nI sn) (hs24 : sn ≤ 24) : Met l yX8_seen (ws_ yX8_seen cX8_seen 5 (some .int)) rm_X8_seen (pcx D k [.ref o, .int h0, .int wh, .int va, .int of] sz [(o, eMM r (.ref ma) fr I L), (ma, eMI mr MI), ((r 24), aI k 24 qH), ((r 25), aI k 24 qW), ((r 26), aI k 24 qV), ((r 27), aI k 24 qO)] (fun _ => True)) (q_X8_seen D k o r fr I L ma mr MI qH qW qV qO h0 wh va of sn (va_A [(o, eMM r (.ref ma) fr I L), (ma, eMI mr MI), ((r 24), aI k 24 qH), ((r 25), aI k 24 qW), ((r 26), aI k 24 qV), ((r 27), aI k 24 qO)] sz)) 0 0 (va_A [(o, eMM r (.ref ma) fr I L), (ma, eMI mr MI), ((r 24), aI k 24 qH), ((r 25), aI k 24 qW), ((r 26), aI k 24 qV), ((r 27), aI k 24 qO)] sz) := by
  refine Met.start (Qc := q_X8_seen D k o r fr I L ma mr MI qH qW qV qO h0 wh va of sn) (by decide) (Nat.le_of_ble_eq_true rfl) ?_
  intro p e s m below meth c A hx hb hr hlocks hml hown hin hts hg hP hD hA hAn hS hY hsz ls hl
  have hown : s.vm.findClass RX8 = some m.cls := hown
  have hl : lv_has ls 5 [(0, .ref o), (1, .int h0), (2, .int wh), (3, .int va), (4, .int of)] := hl
  refine lv_aload_n hx hb dX8_seen_0 rfl (lv_at hl 0 rfl) ?_
  refine lv_iconst (v := 0) hx hb dX8_seen_1 ci_0 ?_
  refine va_put (D := D) (ci := 10) (v := .int 0) (C := RX8) (T := TX8) (N := 37) hx hb hts in_X8 tyX8 tyX8_ok nmX8 hown hg.1 hP hD hS 0 rfl rfl 0 (Nat.le_of_ble_eq_true rfl) (hts _ q1141) (fun _ h9 => h9) rfl ftX8_0 rfl rfl (Nat.le_of_ble_eq_true rfl) dX8_seen_2 (fun H locs hP hD hS => ?_)
  replace hP : va_P D vwCl [(o, eMM r (.ref ma) fr (upd I 0 0) L), (ma, eMI mr MI), ((r 24), aI k 24 qH), ((r 25), aI k 24 qW), ((r 26), aI k 24 qV), ((r 27), aI k 24 qO)] H := hP
  replace hD : va_D A [(o, eMM r (.ref ma) fr (upd I 0 0) L), (ma, eMI mr MI), ((r 24), aI k 24 qH), ((r 25), aI k 24 qW), ((r 26), aI k 24 qV), ((r 27), aI k 24 qO)] := hD
  refine lv_aload_n hx hb dX8_seen_5 rfl (lv_at hl 0 rfl) ?_
  refine lv_iload_n hx hb dX8_seen_6 rfl (lv_at hl 1 rfl) ?_
  refine lv_iload_n hx hb dX8_seen_7 rfl (lv_at hl 2 rfl) ?_
  refine xc_i (wc := [(o, eMM r (.ref ma) fr (upd I 0 0) L), (ma, eMI mr MI)]) (wr := [((r 24), aI k 24 qH), ((r 25), aI k 24 qW), ((r 26), aI k 24 qV), ((r 27), aI k 24 qO)]) hP hD hS hA [0, 1] [2, 3, 4, 5] rfl rfl rfl (by decide) (xrV ⟨hx, hb, hml, hown, hts⟩ hg (m_X8_isWhat l D k _ o r fr (upd I 0 0) L ma mr MI h0 wh) hP hD [0, 1] rfl rfl trivial (ci := 10) (q0 := 0) rfl rfl rfl q1562 q1564 qs71 q93 q1565 xo_X8_isWhat ⟨rfl, rfl⟩ ⟨Nat.le_of_ble_eq_true rfl, Nat.le_of_ble_eq_true rfl⟩ hl.1 (Nat.le_of_ble_eq_true rfl) dX8_seen_8 ⟨Nat.le_of_ble_eq_true rfl, Nat.le_of_ble_eq_true rfl⟩ rfl) (fun u1 r_ H locs hw hP hD hS hk => ?_)
  obtain ⟨rfl, eu1, bu1⟩ := hw
  replace hP : va_P D vwCl [(o, eMM r (.ref ma) fr (upd I 0 0) L), (ma, eMI mr MI), ((r 24), aI k 24 qH), ((r 25), aI k 24 qW), ((r 26), aI k 24 qV), ((r 27), aI k 24 qO)] H := hP.sub [4, 5, 0, 1, 2, 3] rfl
  replace hD : va_D A [(o, eMM r (.ref ma) fr (upd I 0 0) L), (ma, eMI mr MI), ((r 24), aI k 24 qH), ((r 25), aI k 24 qW), ((r 26), aI k 24 qV), ((r 27), aI k 24 qO)] := hD.sub [4, 5, 0, 1, 2, 3] (by decide) rfl
  refine lv_if_ne (tgt := 20) hx hb dX8_seen_11 (by decide) (fun c2 => ?_) (fun c2 => ?_)
  · refine lv_iload_n hx hb dX8_seen_20 rfl (lv_at hl 3 rfl) ?_
    refine lv_iconst (v := 0) hx hb dX8_seen_21 ci_0 ?_
    refine lv_ldcw hx hb hown (hts _ q1566) dX8_seen_22 ?_
    refine xc_i (wc := []) (wr := [(o, eMM r (.ref ma) fr (upd I 0 0) L), (ma, eMI mr MI), ((r 24), aI k 24 qH), ((r 25), aI k 24 qW), ((r 26), aI k 24 qV), ((r 27), aI k 24 qO)]) hP hD hS hA [] [0, 1, 2, 3, 4, 5] rfl rfl rfl (by decide) (xrS ⟨hx, hb, hml, hown, hts⟩ hg (m_X8_in l D k _ va 0 999999) hP hD [] rfl rfl trivial q1426 q1427 q93 q1428 xo_X8_in ⟨rfl, rfl⟩ ⟨Nat.le_of_ble_eq_true rfl, Nat.le_of_ble_eq_true rfl⟩ hl.1 (Nat.le_of_ble_eq_true rfl) dX8_seen_25 ⟨Nat.le_of_ble_eq_true rfl, Nat.le_of_ble_eq_true rfl⟩ rfl) (fun u3 r_ H locs hw hP hD hS hk => ?_)
    obtain ⟨rfl, eu3, bu3⟩ := hw
    replace hP : va_P D vwCl [(o, eMM r (.ref ma) fr (upd I 0 0) L), (ma, eMI mr MI), ((r 24), aI k 24 qH), ((r 25), aI k 24 qW), ((r 26), aI k 24 qV), ((r 27), aI k 24 qO)] H := hP.sub [0, 1, 2, 3, 4, 5] rfl
    replace hD : va_D A [(o, eMM r (.ref ma) fr (upd I 0 0) L), (ma, eMI mr MI), ((r 24), aI k 24 qH), ((r 25), aI k 24 qW), ((r 26), aI k 24 qV), ((r 27), aI k 24 qO)] := hD.sub [0, 1, 2, 3, 4, 5] (by decide) rfl
    refine lv_if_eq (tgt := 43) hx hb dX8_seen_28 (by decide) (fun c4 => ?_) (fun c4 => ?_)
    · refine lv_aload_n hx hb dX8_seen_43 rfl (lv_at hl 0 rfl) ?_
      refine lv_iconst (v := 2) hx hb dX8_seen_44 ci_2 ?_
      refine xc_i (wc := [(o, eMM r (.ref ma) fr (upd I 0 0) L)]) (wr := [(ma, eMI mr MI), ((r 24), aI k 24 qH), ((r 25), aI k 24 qW), ((r 26), aI k 24 qV), ((r 27), aI k 24 qO)]) hP hD hS hA [0] [1, 2, 3, 4, 5] rfl rfl rfl (by decide) (xrV ⟨hx, hb, hml, hown, hts⟩ hg (m_X8_refused l D k _ o r (.ref ma) fr (upd I 0 0) L 2) hP hD [0] rfl rfl trivial (ci := 10) (q0 := 0) rfl rfl rfl q1265 q1267 qs39 q93 q1268 xo_X8_refused ⟨rfl, rfl⟩ ⟨Nat.le_of_ble_eq_true rfl, Nat.le_of_ble_eq_true rfl⟩ hl.1 (Nat.le_of_ble_eq_true rfl) dX8_seen_45 ⟨Nat.le_of_ble_eq_true rfl, Nat.le_of_ble_eq_true rfl⟩ rfl) (fun r_ u5 H locs hw hP hD hS hk => ?_)
      obtain ⟨rfl, eu5⟩ := hw
      replace hP : va_P D vwCl [(o, eMM r (.ref ma) fr (upd (upd (upd I 0 0) 1 u5.2.1) 2 u5.2.2) L), (ma, eMI mr MI), ((r 24), aI k 24 qH), ((r 25), aI k 24 qW), ((r 26), aI k 24 qV), ((r 27), aI k 24 qO)] H := hP.sub [5, 0, 1, 2, 3, 4] rfl
      replace hD : va_D A [(o, eMM r (.ref ma) fr (upd (upd (upd I 0 0) 1 u5.2.1) 2 u5.2.2) L), (ma, eMI mr MI), ((r 24), aI k 24 qH), ((r 25), aI k 24 qW), ((r 26), aI k 24 qV), ((r 27), aI k 24 qO)] := hD.sub [5, 0, 1, 2, 3, 4] (by decide) rfl
      exact xret_i hx hb hr hlocks (Nat.le_of_ble_eq_true rfl) (Nat.le_of_ble_eq_true rfl) hS.2.2 dX8_seen_48 (fun t ht => ⟨⟨u5.1, (u5.1, 0, u5.2.1, u5.2.2, (I 23), qH, qW, qV, qO), rfl, ⟨rfl, (by subst eu5; subst eu3; subst eu1; exact Eq.symm (Eq.trans (if_neg c2) (Eq.trans (if_pos c4) (rfl))))⟩, by rw [ht]; exact hP, hD⟩, hS.F ht⟩)
    · refine lv_iload hx hb dX8_seen_31 (lv_at hl 4 rfl) ?_
      refine lv_iconst (v := 0) hx hb dX8_seen_33 ci_0 ?_
      refine lv_sipush (v := 999) hx hb dX8_seen_34 cs_999 ?_
      refine xc_i (wc := []) (wr := [(o, eMM r (.ref ma) fr (upd I 0 0) L), (ma, eMI mr MI), ((r 24), aI k 24 qH), ((r 25), aI k 24 qW), ((r 26), aI k 24 qV), ((r 27), aI k 24 qO)]) hP hD hS hA [] [0, 1, 2, 3, 4, 5] rfl rfl rfl (by decide) (xrS ⟨hx, hb, hml, hown, hts⟩ hg (m_X8_in l D k _ of 0 999) hP hD [] rfl rfl trivial q1426 q1427 q93 q1428 xo_X8_in ⟨rfl, rfl⟩ ⟨Nat.le_of_ble_eq_true rfl, Nat.le_of_ble_eq_true rfl⟩ hl.1 (Nat.le_of_ble_eq_true rfl) dX8_seen_37 ⟨Nat.le_of_ble_eq_true rfl, Nat.le_of_ble_eq_true rfl⟩ rfl) (fun u6 r_ H locs hw hP hD hS hk => ?_)
      obtain ⟨rfl, eu6, bu6⟩ := hw
      replace hP : va_P D vwCl [(o, eMM r (.ref ma) fr (upd I 0 0) L), (ma, eMI mr MI), ((r 24), aI k 24 qH), ((r 25), aI k 24 qW), ((r 26), aI k 24 qV), ((r 27), aI k 24 qO)] H := hP.sub [0, 1, 2, 3, 4, 5] rfl
      replace hD : va_D A [(o, eMM r (.ref ma) fr (upd I 0 0) L), (ma, eMI mr MI), ((r 24), aI k 24 qH), ((r 25), aI k 24 qW), ((r 26), aI k 24 qV), ((r 27), aI k 24 qO)] := hD.sub [0, 1, 2, 3, 4, 5] (by decide) rfl
      refine lv_if_ne (tgt := 49) hx hb dX8_seen_40 (by decide) (fun c7 => ?_) (fun c7 => ?_)
      · refine lv_aload_n hx hb dX8_seen_49 rfl (lv_at hl 0 rfl) ?_
        refine va_get (D := D) (ci := 10) (v := .int (I 23)) (C := RX8) (T := TX8) (N := 37) hx hb hts in_X8 hown hg.1 hP 0 rfl rfl 23 (Nat.le_of_ble_eq_true rfl) (hts _ q1164) (fun _ h9 => h9) rfl dX8_seen_50 ?_
        refine lv_bipush (v := 24) hx hb dX8_seen_53 cb_24 ?_
        refine lv_icmp_ne (tgt := 64) hx hb dX8_seen_55 (by decide) (fun c8 => ?_) (fun c8 => ?_)
        · have hsl : sn < 24 := by
            rcases Nat.lt_or_ge sn 24 with h | h
            · exact h
            · exact absurd (by rw [hsn, show sn = 24 by omega]; decide) c8
          refine lv_aload_n hx hb dX8_seen_64 rfl (lv_at hl 0 rfl) ?_
          refine va_get (D := D) (ci := 10) (v := .ref (r 24)) (C := RX8) (T := TX8) (N := 37) hx hb hts in_X8 hown hg.1 hP 0 rfl rfl 24 (Nat.le_of_ble_eq_true rfl) (hts _ q1165) (fun _ h9 => h9) rfl dX8_seen_65 ?_
          refine lv_aload_n hx hb dX8_seen_68 rfl (lv_at hl 0 rfl) ?_
          refine va_get (D := D) (ci := 10) (v := .int (I 23)) (C := RX8) (T := TX8) (N := 37) hx hb hts in_X8 hown hg.1 hP 0 rfl rfl 23 (Nat.le_of_ble_eq_true rfl) (hts _ q1164) (fun _ h9 => h9) rfl dX8_seen_69 ?_
          refine lv_iload_n hx hb dX8_seen_72 rfl (lv_at hl 1 rfl) ?_
          refine xa_iast hx hb hg hP hD hS 2 rfl hsn (by omega) (by omega) dX8_seen_73 (fun f9 H locs ef9 hP hD hS => ?_)
          replace hP : va_P D vwCl [(o, eMM r (.ref ma) fr (upd I 0 0) L), (ma, eMI mr MI), ((r 24), aI k 24 f9), ((r 25), aI k 24 qW), ((r 26), aI k 24 qV), ((r 27), aI k 24 qO)] H := hP
          replace hD : va_D A [(o, eMM r (.ref ma) fr (upd I 0 0) L), (ma, eMI mr MI), ((r 24), aI k 24 f9), ((r 25), aI k 24 qW), ((r 26), aI k 24 qV), ((r 27), aI k 24 qO)] := hD
          refine lv_aload_n hx hb dX8_seen_74 rfl (lv_at hl 0 rfl) ?_
          refine va_get (D := D) (ci := 10) (v := .ref (r 25)) (C := RX8) (T := TX8) (N := 37) hx hb hts in_X8 hown hg.1 hP 0 rfl rfl 25 (Nat.le_of_ble_eq_true rfl) (hts _ q1166) (fun _ h9 => h9) rfl dX8_seen_75 ?_
          refine lv_aload_n hx hb dX8_seen_78 rfl (lv_at hl 0 rfl) ?_
          refine va_get (D := D) (ci := 10) (v := .int (I 23)) (C := RX8) (T := TX8) (N := 37) hx hb hts in_X8 hown hg.1 hP 0 rfl rfl 23 (Nat.le_of_ble_eq_true rfl) (hts _ q1164) (fun _ h9 => h9) rfl dX8_seen_79 ?_
          refine lv_iload_n hx hb dX8_seen_82 rfl (lv_at hl 2 rfl) ?_
          refine xa_iast hx hb hg hP hD hS 3 rfl hsn (by omega) (by omega) dX8_seen_83 (fun f10 H locs ef10 hP hD hS => ?_)
          replace hP : va_P D vwCl [(o, eMM r (.ref ma) fr (upd I 0 0) L), (ma, eMI mr MI), ((r 24), aI k 24 f9), ((r 25), aI k 24 f10), ((r 26), aI k 24 qV), ((r 27), aI k 24 qO)] H := hP
          replace hD : va_D A [(o, eMM r (.ref ma) fr (upd I 0 0) L), (ma, eMI mr MI), ((r 24), aI k 24 f9), ((r 25), aI k 24 f10), ((r 26), aI k 24 qV), ((r 27), aI k 24 qO)] := hD
          refine lv_aload_n hx hb dX8_seen_84 rfl (lv_at hl 0 rfl) ?_
          refine va_get (D := D) (ci := 10) (v := .ref (r 26)) (C := RX8) (T := TX8) (N := 37) hx hb hts in_X8 hown hg.1 hP 0 rfl rfl 26 (Nat.le_of_ble_eq_true rfl) (hts _ q1167) (fun _ h9 => h9) rfl dX8_seen_85 ?_
          refine lv_aload_n hx hb dX8_seen_88 rfl (lv_at hl 0 rfl) ?_
          refine va_get (D := D) (ci := 10) (v := .int (I 23)) (C := RX8) (T := TX8) (N := 37) hx hb hts in_X8 hown hg.1 hP 0 rfl rfl 23 (Nat.le_of_ble_eq_true rfl) (hts _ q1164) (fun _ h9 => h9) rfl dX8_seen_89 ?_
          refine lv_iload_n hx hb dX8_seen_92 rfl (lv_at hl 3 rfl) ?_
          refine xa_iast hx hb hg hP hD hS 4 rfl hsn (by omega) (by omega) dX8_seen_93 (fun f11 H locs ef11 hP hD hS => ?_)
          replace hP : va_P D vwCl [(o, eMM r (.ref ma) fr (upd I 0 0) L), (ma, eMI mr MI), ((r 24), aI k 24 f9), ((r 25), aI k 24 f10), ((r 26), aI k 24 f11), ((r 27), aI k 24 qO)] H := hP
          replace hD : va_D A [(o, eMM r (.ref ma) fr (upd I 0 0) L), (ma, eMI mr MI), ((r 24), aI k 24 f9), ((r 25), aI k 24 f10), ((r 26), aI k 24 f11), ((r 27), aI k 24 qO)] := hD
          refine lv_aload_n hx hb dX8_seen_94 rfl (lv_at hl 0 rfl) ?_
          refine va_get (D := D) (ci := 10) (v := .ref (r 27)) (C := RX8) (T := TX8) (N := 37) hx hb hts in_X8 hown hg.1 hP 0 rfl rfl 27 (Nat.le_of_ble_eq_true rfl) (hts _ q1168) (fun _ h9 => h9) rfl dX8_seen_95 ?_
          refine lv_aload_n hx hb dX8_seen_98 rfl (lv_at hl 0 rfl) ?_
          refine va_get (D := D) (ci := 10) (v := .int (I 23)) (C := RX8) (T := TX8) (N := 37) hx hb hts in_X8 hown hg.1 hP 0 rfl rfl 23 (Nat.le_of_ble_eq_true rfl) (hts _ q1164) (fun _ h9 => h9) rfl dX8_seen_99 ?_
          refine lv_iload hx hb dX8_seen_102 (lv_at hl 4 rfl) ?_
          refine xa_iast hx hb hg hP hD hS 5 rfl hsn (by omega) (by omega) dX8_seen_104 (fun f12 H locs ef12 hP hD hS => ?_)
          replace hP : va_P D vwCl [(o, eMM r (.ref ma) fr (upd I 0 0) L), (ma, eMI mr MI), ((r 24), aI k 24 f9), ((r 25), aI k 24 f10), ((r 26), aI k 24 f11), ((r 27), aI k 24 f12)] H := hP
          replace hD : va_D A [(o, eMM r (.ref ma) fr (upd I 0 0) L), (ma, eMI mr MI), ((r 24), aI k 24 f9), ((r 25), aI k 24 f10), ((r 26), aI k 24 f11), ((r 27), aI k 24 f12)] := hD
          refine lv_aload_n hx hb dX8_seen_105 rfl (lv_at hl 0 rfl) ?_
          refine lv_dup hx hb dX8_seen_106 rfl ?_
          refine va_get (D := D) (ci := 10) (v := .int (I 23)) (C := RX8) (T := TX8) (N := 37) hx hb hts in_X8 hown hg.1 hP 0 rfl rfl 23 (Nat.le_of_ble_eq_true rfl) (hts _ q1164) (fun _ h9 => h9) rfl dX8_seen_107 ?_
          refine lv_iconst (v := 1) hx hb dX8_seen_110 ci_1 ?_
          refine lv_iadd hx hb dX8_seen_111 ?_
          refine lv_topi (fun x13 ex13 => ?_)
          refine va_put (D := D) (ci := 10) (v := .int x13) (C := RX8) (T := TX8) (N := 37) hx hb hts in_X8 tyX8 tyX8_ok nmX8 hown hg.1 hP hD hS 0 rfl rfl 23 (Nat.le_of_ble_eq_true rfl) (hts _ q1164) (fun _ h9 => h9) rfl ftX8_23 rfl rfl (Nat.le_of_ble_eq_true rfl) dX8_seen_112 (fun H locs hP hD hS => ?_)
          replace hP : va_P D vwCl [(o, eMM r (.ref ma) fr (upd (upd I 0 0) 23 x13) L), (ma, eMI mr MI), ((r 24), aI k 24 f9), ((r 25), aI k 24 f10), ((r 26), aI k 24 f11), ((r 27), aI k 24 f12)] H := hP
          replace hD : va_D A [(o, eMM r (.ref ma) fr (upd (upd I 0 0) 23 x13) L), (ma, eMI mr MI), ((r 24), aI k 24 f9), ((r 25), aI k 24 f10), ((r 26), aI k 24 f11), ((r 27), aI k 24 f12)] := hD
          refine lv_aload_n hx hb dX8_seen_115 rfl (lv_at hl 0 rfl) ?_
          refine lv_aload_n hx hb dX8_seen_116 rfl (lv_at hl 0 rfl) ?_
          refine va_get (D := D) (ci := 10) (v := .int x13) (C := RX8) (T := TX8) (N := 37) hx hb hts in_X8 hown hg.1 hP 0 rfl rfl 23 (Nat.le_of_ble_eq_true rfl) (hts _ q1164) (fun _ h9 => h9) rfl dX8_seen_117 ?_
          refine xc_i (wc := [(o, eMM r (.ref ma) fr (upd (upd I 0 0) 23 x13) L)]) (wr := [(ma, eMI mr MI), ((r 24), aI k 24 f9), ((r 25), aI k 24 f10), ((r 26), aI k 24 f11), ((r 27), aI k 24 f12)]) hP hD hS hA [0] [1, 2, 3, 4, 5] rfl rfl rfl (by decide) (xrV ⟨hx, hb, hml, hown, hts⟩ hg (m_X8_done l D k _ o r (.ref ma) fr (upd (upd I 0 0) 23 x13) L x13) hP hD [0] rfl rfl trivial (ci := 10) (q0 := 0) rfl rfl rfl q1482 q1484 qs60 q93 q1485 xo_X8_done ⟨rfl, rfl⟩ ⟨Nat.le_of_ble_eq_true rfl, Nat.le_of_ble_eq_true rfl⟩ hl.1 (Nat.le_of_ble_eq_true rfl) dX8_seen_120 ⟨Nat.le_of_ble_eq_true rfl, Nat.le_of_ble_eq_true rfl⟩ rfl) (fun r_ u14 H locs hw hP hD hS hk => ?_)
          obtain ⟨rfl, eu14⟩ := hw
          replace hP : va_P D vwCl [(o, eMM r (.ref ma) fr (upd (upd (upd (upd I 0 0) 23 x13) 1 u14.2.1) 2 u14.2.2) L), (ma, eMI mr MI), ((r 24), aI k 24 f9), ((r 25), aI k 24 f10), ((r 26), aI k 24 f11), ((r 27), aI k 24 f12)] H := hP.sub [5, 0, 1, 2, 3, 4] rfl
          replace hD : va_D A [(o, eMM r (.ref ma) fr (upd (upd (upd (upd I 0 0) 23 x13) 1 u14.2.1) 2 u14.2.2) L), (ma, eMI mr MI), ((r 24), aI k 24 f9), ((r 25), aI k 24 f10), ((r 26), aI k 24 f11), ((r 27), aI k 24 f12)] := hD.sub [5, 0, 1, 2, 3, 4] (by decide) rfl
          exact xret_i hx hb hr hlocks (Nat.le_of_ble_eq_true rfl) (Nat.le_of_ble_eq_true rfl) hS.2.2 dX8_seen_123 (fun t ht => ⟨⟨u14.1, (u14.1, 0, u14.2.1, u14.2.2, x13, f9, f10, f11, f12), rfl, ⟨rfl, (by subst eu14; subst ex13; subst ef12; subst ef11; subst ef10; subst ef9; subst eu6; subst eu3; subst eu1; exact Eq.symm (Eq.trans (if_neg c2) (Eq.trans (if_neg c4) (Eq.trans (if_neg c7) (Eq.trans (if_neg c8) (rfl))))))⟩, by rw [ht]; exact hP, hD⟩, hS.F ht⟩)
        · refine lv_aload_n hx hb dX8_seen_58 rfl (lv_at hl 0 rfl) ?_
          refine lv_iconst (v := 3) hx hb dX8_seen_59 ci_3 ?_
          refine xc_i (wc := [(o, eMM r (.ref ma) fr (upd I 0 0) L)]) (wr := [(ma, eMI mr MI), ((r 24), aI k 24 qH), ((r 25), aI k 24 qW), ((r 26), aI k 24 qV), ((r 27), aI k 24 qO)]) hP hD hS hA [0] [1, 2, 3, 4, 5] rfl rfl rfl (by decide) (xrV ⟨hx, hb, hml, hown, hts⟩ hg (m_X8_refused l D k _ o r (.ref ma) fr (upd I 0 0) L 3) hP hD [0] rfl rfl trivial (ci := 10) (q0 := 0) rfl rfl rfl q1265 q1267 qs39 q93 q1268 xo_X8_refused ⟨rfl, rfl⟩ ⟨Nat.le_of_ble_eq_true rfl, Nat.le_of_ble_eq_true rfl⟩ hl.1 (Nat.le_of_ble_eq_true rfl) dX8_seen_60 ⟨Nat.le_of_ble_eq_true rfl, Nat.le_of_ble_eq_true rfl⟩ rfl) (fun r_ u15 H locs hw hP hD hS hk => ?_)
          obtain ⟨rfl, eu15⟩ := hw
          replace hP : va_P D vwCl [(o, eMM r (.ref ma) fr (upd (upd (upd I 0 0) 1 u15.2.1) 2 u15.2.2) L), (ma, eMI mr MI), ((r 24), aI k 24 qH), ((r 25), aI k 24 qW), ((r 26), aI k 24 qV), ((r 27), aI k 24 qO)] H := hP.sub [5, 0, 1, 2, 3, 4] rfl
          replace hD : va_D A [(o, eMM r (.ref ma) fr (upd (upd (upd I 0 0) 1 u15.2.1) 2 u15.2.2) L), (ma, eMI mr MI), ((r 24), aI k 24 qH), ((r 25), aI k 24 qW), ((r 26), aI k 24 qV), ((r 27), aI k 24 qO)] := hD.sub [5, 0, 1, 2, 3, 4] (by decide) rfl
          exact xret_i hx hb hr hlocks (Nat.le_of_ble_eq_true rfl) (Nat.le_of_ble_eq_true rfl) hS.2.2 dX8_seen_63 (fun t ht => ⟨⟨u15.1, (u15.1, 0, u15.2.1, u15.2.2, (I 23), qH, qW, qV, qO), rfl, ⟨rfl, (by subst eu15; subst eu6; subst eu3; subst eu1; exact Eq.symm (Eq.trans (if_neg c2) (Eq.trans (if_neg c4) (Eq.trans (if_neg c7) (Eq.trans (if_pos c8) (rfl))))))⟩, by rw [ht]; exact hP, hD⟩, hS.F ht⟩)
      · refine lv_aload_n hx hb dX8_seen_43 rfl (lv_at hl 0 rfl) ?_
        refine lv_iconst (v := 2) hx hb dX8_seen_44 ci_2 ?_
        refine xc_i (wc := [(o, eMM r (.ref ma) fr (upd I 0 0) L)]) (wr := [(ma, eMI mr MI), ((r 24), aI k 24 qH), ((r 25), aI k 24 qW), ((r 26), aI k 24 qV), ((r 27), aI k 24 qO)]) hP hD hS hA [0] [1, 2, 3, 4, 5] rfl rfl rfl (by decide) (xrV ⟨hx, hb, hml, hown, hts⟩ hg (m_X8_refused l D k _ o r (.ref ma) fr (upd I 0 0) L 2) hP hD [0] rfl rfl trivial (ci := 10) (q0 := 0) rfl rfl rfl q1265 q1267 qs39 q93 q1268 xo_X8_refused ⟨rfl, rfl⟩ ⟨Nat.le_of_ble_eq_true rfl, Nat.le_of_ble_eq_true rfl⟩ hl.1 (Nat.le_of_ble_eq_true rfl) dX8_seen_45 ⟨Nat.le_of_ble_eq_true rfl, Nat.le_of_ble_eq_true rfl⟩ rfl) (fun r_ u16 H locs hw hP hD hS hk => ?_)
        obtain ⟨rfl, eu16⟩ := hw
        replace hP : va_P D vwCl [(o, eMM r (.ref ma) fr (upd (upd (upd I 0 0) 1 u16.2.1) 2 u16.2.2) L), (ma, eMI mr MI), ((r 24), aI k 24 qH), ((r 25), aI k 24 qW), ((r 26), aI k 24 qV), ((r 27), aI k 24 qO)] H := hP.sub [5, 0, 1, 2, 3, 4] rfl
        replace hD : va_D A [(o, eMM r (.ref ma) fr (upd (upd (upd I 0 0) 1 u16.2.1) 2 u16.2.2) L), (ma, eMI mr MI), ((r 24), aI k 24 qH), ((r 25), aI k 24 qW), ((r 26), aI k 24 qV), ((r 27), aI k 24 qO)] := hD.sub [5, 0, 1, 2, 3, 4] (by decide) rfl
        exact xret_i hx hb hr hlocks (Nat.le_of_ble_eq_true rfl) (Nat.le_of_ble_eq_true rfl) hS.2.2 dX8_seen_48 (fun t ht => ⟨⟨u16.1, (u16.1, 0, u16.2.1, u16.2.2, (I 23), qH, qW, qV, qO), rfl, ⟨rfl, (by subst eu16; subst eu6; subst eu3; subst eu1; exact Eq.symm (Eq.trans (if_neg c2) (Eq.trans (if_neg c4) (Eq.trans (if_pos c7) (rfl)))))⟩, by rw [ht]; exact hP, hD⟩, hS.F ht⟩)
  · refine lv_aload_n hx hb dX8_seen_14 rfl (lv_at hl 0 rfl) ?_
    refine lv_iconst (v := 1) hx hb dX8_seen_15 ci_1 ?_
    refine xc_i (wc := [(o, eMM r (.ref ma) fr (upd I 0 0) L)]) (wr := [(ma, eMI mr MI), ((r 24), aI k 24 qH), ((r 25), aI k 24 qW), ((r 26), aI k 24 qV), ((r 27), aI k 24 qO)]) hP hD hS hA [0] [1, 2, 3, 4, 5] rfl rfl rfl (by decide) (xrV ⟨hx, hb, hml, hown, hts⟩ hg (m_X8_refused l D k _ o r (.ref ma) fr (upd I 0 0) L 1) hP hD [0] rfl rfl trivial (ci := 10) (q0 := 0) rfl rfl rfl q1265 q1267 qs39 q93 q1268 xo_X8_refused ⟨rfl, rfl⟩ ⟨Nat.le_of_ble_eq_true rfl, Nat.le_of_ble_eq_true rfl⟩ hl.1 (Nat.le_of_ble_eq_true rfl) dX8_seen_16 ⟨Nat.le_of_ble_eq_true rfl, Nat.le_of_ble_eq_true rfl⟩ rfl) (fun r_ u17 H locs hw hP hD hS hk => ?_)
    obtain ⟨rfl, eu17⟩ := hw
    replace hP : va_P D vwCl [(o, eMM r (.ref ma) fr (upd (upd (upd I 0 0) 1 u17.2.1) 2 u17.2.2) L), (ma, eMI mr MI), ((r 24), aI k 24 qH), ((r 25), aI k 24 qW), ((r 26), aI k 24 qV), ((r 27), aI k 24 qO)] H := hP.sub [5, 0, 1, 2, 3, 4] rfl
    replace hD : va_D A [(o, eMM r (.ref ma) fr (upd (upd (upd I 0 0) 1 u17.2.1) 2 u17.2.2) L), (ma, eMI mr MI), ((r 24), aI k 24 qH), ((r 25), aI k 24 qW), ((r 26), aI k 24 qV), ((r 27), aI k 24 qO)] := hD.sub [5, 0, 1, 2, 3, 4] (by decide) rfl
    exact xret_i hx hb hr hlocks (Nat.le_of_ble_eq_true rfl) (Nat.le_of_ble_eq_true rfl) hS.2.2 dX8_seen_19 (fun t ht => ⟨⟨u17.1, (u17.1, 0, u17.2.1, u17.2.2, (I 23), qH, qW, qV, qO), rfl, ⟨rfl, (by subst eu17; subst eu1; exact Eq.symm (Eq.trans (if_pos c2) (rfl)))⟩, by rw [ht]; exact hP, hD⟩, hS.F ht⟩)

def f_X8_seenN  : Int32 × Int32 × Int32 × Int32 :=
  let u1 := f_X8_isWhatN
  let u2 := f_X8_refused 1
  (u2.1, 0, u2.2.1, u2.2.2)
abbrev q_X8_seenN (D : va_G) (k : KK) (o : Nat) (r : Nat → Nat) (fr : Value) (I : Nat → Int32) (L : Nat → Int64) (qH : Nat → Int32) (qW : Nat → Int32) (qV : Nat → Int32) (qO : Nat → Int32) (h0 : Int32) (wh : Int32) (va : Int32) (of : Int32) (A : Nat → Prop) : Array Value → State → Outcome → State → Prop := va_Qi (fun (r_ : Int32) (u : Int32 × Int32 × Int32 × Int32) => r_ = u.1 ∧ u = f_X8_seenN) (bx D (fun u => [(o, eMM r .null fr (upd (upd (upd I 0 u.2.1) 1 u.2.2.1) 2 u.2.2.2) L), ((r 24), aI k 24 qH), ((r 25), aI k 24 qW), ((r 26), aI k 24 qV), ((r 27), aI k 24 qO)]) A) A
abbrev rm_X8_seenN : Room := { frames := 3, cells := 0, slots := 0, locals := 120 }
set_option maxHeartbeats 8000000 in
theorem m_X8_seenN (l : Launch) (D : va_G) (k : KK) (sz : Nat) (o : Nat) (r : Nat → Nat) (fr : Value) (I : Nat → Int32) (L : Nat → Int64) (qH : Nat → Int32) (qW : Nat → Int32) (qV : Nat → Int32) (qO : Nat → Int32) (h0 : Int32) (wh : Int32) (va : Int32) (of : Int32)  : Met l yX8_seen (ws_ yX8_seen cX8_seen 5 (some .int)) rm_X8_seenN (pcx D k [.ref o, .int h0, .int wh, .int va, .int of] sz [(o, eMM r .null fr I L), ((r 24), aI k 24 qH), ((r 25), aI k 24 qW), ((r 26), aI k 24 qV), ((r 27), aI k 24 qO)] (fun _ => True)) (q_X8_seenN D k o r fr I L qH qW qV qO h0 wh va of (va_A [(o, eMM r .null fr I L), ((r 24), aI k 24 qH), ((r 25), aI k 24 qW), ((r 26), aI k 24 qV), ((r 27), aI k 24 qO)] sz)) 0 0 (va_A [(o, eMM r .null fr I L), ((r 24), aI k 24 qH), ((r 25), aI k 24 qW), ((r 26), aI k 24 qV), ((r 27), aI k 24 qO)] sz) := by
  refine Met.start (Qc := q_X8_seenN D k o r fr I L qH qW qV qO h0 wh va of) (by decide) (Nat.le_of_ble_eq_true rfl) ?_
  intro p e s m below meth c A hx hb hr hlocks hml hown hin hts hg hP hD hA hAn hS hY hsz ls hl
  have hown : s.vm.findClass RX8 = some m.cls := hown
  have hl : lv_has ls 5 [(0, .ref o), (1, .int h0), (2, .int wh), (3, .int va), (4, .int of)] := hl
  refine lv_aload_n hx hb dX8_seen_0 rfl (lv_at hl 0 rfl) ?_
  refine lv_iconst (v := 0) hx hb dX8_seen_1 ci_0 ?_
  refine va_put (D := D) (ci := 10) (v := .int 0) (C := RX8) (T := TX8) (N := 37) hx hb hts in_X8 tyX8 tyX8_ok nmX8 hown hg.1 hP hD hS 0 rfl rfl 0 (Nat.le_of_ble_eq_true rfl) (hts _ q1141) (fun _ h9 => h9) rfl ftX8_0 rfl rfl (Nat.le_of_ble_eq_true rfl) dX8_seen_2 (fun H locs hP hD hS => ?_)
  replace hP : va_P D vwCl [(o, eMM r .null fr (upd I 0 0) L), ((r 24), aI k 24 qH), ((r 25), aI k 24 qW), ((r 26), aI k 24 qV), ((r 27), aI k 24 qO)] H := hP
  replace hD : va_D A [(o, eMM r .null fr (upd I 0 0) L), ((r 24), aI k 24 qH), ((r 25), aI k 24 qW), ((r 26), aI k 24 qV), ((r 27), aI k 24 qO)] := hD
  refine lv_aload_n hx hb dX8_seen_5 rfl (lv_at hl 0 rfl) ?_
  refine lv_iload_n hx hb dX8_seen_6 rfl (lv_at hl 1 rfl) ?_
  refine lv_iload_n hx hb dX8_seen_7 rfl (lv_at hl 2 rfl) ?_
  refine xc_i (wc := [(o, eMM r .null fr (upd I 0 0) L)]) (wr := [((r 24), aI k 24 qH), ((r 25), aI k 24 qW), ((r 26), aI k 24 qV), ((r 27), aI k 24 qO)]) hP hD hS hA [0] [1, 2, 3, 4] rfl rfl rfl (by decide) (xrV ⟨hx, hb, hml, hown, hts⟩ hg (m_X8_isWhatN l D k _ o r fr (upd I 0 0) L h0 wh) hP hD [0] rfl rfl trivial (ci := 10) (q0 := 0) rfl rfl rfl q1562 q1564 qs71 q93 q1565 xo_X8_isWhat ⟨rfl, rfl⟩ ⟨Nat.le_of_ble_eq_true rfl, Nat.le_of_ble_eq_true rfl⟩ hl.1 (Nat.le_of_ble_eq_true rfl) dX8_seen_8 ⟨Nat.le_of_ble_eq_true rfl, Nat.le_of_ble_eq_true rfl⟩ rfl) (fun u1 r_ H locs hw hP hD hS hk => ?_)
  obtain ⟨rfl, eu1, bu1⟩ := hw
  replace hP : va_P D vwCl [(o, eMM r .null fr (upd I 0 0) L), ((r 24), aI k 24 qH), ((r 25), aI k 24 qW), ((r 26), aI k 24 qV), ((r 27), aI k 24 qO)] H := hP.sub [4, 0, 1, 2, 3] rfl
  replace hD : va_D A [(o, eMM r .null fr (upd I 0 0) L), ((r 24), aI k 24 qH), ((r 25), aI k 24 qW), ((r 26), aI k 24 qV), ((r 27), aI k 24 qO)] := hD.sub [4, 0, 1, 2, 3] (by decide) rfl
  refine lv_if_ne (tgt := 20) hx hb dX8_seen_11 (by decide) (fun c => absurd ((eu1).trans rfl) c) (fun _ => ?_)
  refine lv_aload_n hx hb dX8_seen_14 rfl (lv_at hl 0 rfl) ?_
  refine lv_iconst (v := 1) hx hb dX8_seen_15 ci_1 ?_
  refine xc_i (wc := [(o, eMM r .null fr (upd I 0 0) L)]) (wr := [((r 24), aI k 24 qH), ((r 25), aI k 24 qW), ((r 26), aI k 24 qV), ((r 27), aI k 24 qO)]) hP hD hS hA [0] [1, 2, 3, 4] rfl rfl rfl (by decide) (xrV ⟨hx, hb, hml, hown, hts⟩ hg (m_X8_refused l D k _ o r .null fr (upd I 0 0) L 1) hP hD [0] rfl rfl trivial (ci := 10) (q0 := 0) rfl rfl rfl q1265 q1267 qs39 q93 q1268 xo_X8_refused ⟨rfl, rfl⟩ ⟨Nat.le_of_ble_eq_true rfl, Nat.le_of_ble_eq_true rfl⟩ hl.1 (Nat.le_of_ble_eq_true rfl) dX8_seen_16 ⟨Nat.le_of_ble_eq_true rfl, Nat.le_of_ble_eq_true rfl⟩ rfl) (fun r_ u2 H locs hw hP hD hS hk => ?_)
  obtain ⟨rfl, eu2⟩ := hw
  replace hP : va_P D vwCl [(o, eMM r .null fr (upd (upd (upd I 0 0) 1 u2.2.1) 2 u2.2.2) L), ((r 24), aI k 24 qH), ((r 25), aI k 24 qW), ((r 26), aI k 24 qV), ((r 27), aI k 24 qO)] H := hP.sub [4, 0, 1, 2, 3] rfl
  replace hD : va_D A [(o, eMM r .null fr (upd (upd (upd I 0 0) 1 u2.2.1) 2 u2.2.2) L), ((r 24), aI k 24 qH), ((r 25), aI k 24 qW), ((r 26), aI k 24 qV), ((r 27), aI k 24 qO)] := hD.sub [4, 0, 1, 2, 3] (by decide) rfl
  exact xret_i hx hb hr hlocks (Nat.le_of_ble_eq_true rfl) (Nat.le_of_ble_eq_true rfl) hS.2.2 dX8_seen_19 (fun t ht => ⟨⟨u2.1, (u2.1, 0, u2.2.1, u2.2.2), rfl, ⟨rfl, (by subst eu2; subst eu1; exact rfl)⟩, by rw [ht]; exact hP, hD⟩, hS.F ht⟩)

def f_X8_rate_j1 (I : Nat → Int32) (pl : Nat → Int32) (x : Int32) : (Int32) :=
  if x < 0 then
    (-1)
  else
    if (I 29) ≤ x then
      (-1)
    else
      (pl x.toNatClampNeg)
def f_X8_rate (I : Nat → Int32) (pl : Nat → Int32) (x : Int32) : Int32 × Int32 :=
  let v5 := f_X8_rate_j1 I pl x
  (v5, 0)
abbrev q_X8_rate (D : va_G) (k : KK) (o : Nat) (r : Nat → Nat) (mv : Value) (fr : Value) (I : Nat → Int32) (L : Nat → Int64) (pl : Nat → Int32) (x : Int32) (pn : Nat) (A : Nat → Prop) : Array Value → State → Outcome → State → Prop := va_Qi (fun (r_ : Int32) (u : Int32 × Int32) => r_ = u.1 ∧ u = f_X8_rate I pl x) (bx D (fun u => [(o, eMM r mv fr (upd I 0 u.2) L), ((r 30), aI k 5 pl)]) A) A
abbrev rm_X8_rate : Room := { frames := 3, cells := 0, slots := 0, locals := 120 }
theorem xo_X8_rate : xok yX8_rate 1 := by unfold xok; decide +kernel
set_option maxHeartbeats 8000000 in
theorem m_X8_rate (l : Launch) (D : va_G) (k : KK) (sz : Nat) (o : Nat) (r : Nat → Nat) (mv : Value) (fr : Value) (I : Nat → Int32) (L : Nat → Int64) (pl : Nat → Int32) (x : Int32) (pn : Nat) (hpn : I 29 = nI pn) (hp5 : pn ≤ 5) : Met l yX8_rate (ws_ yX8_rate cX8_rate 2 (some .int)) rm_X8_rate (pcx D k [.ref o, .int x] sz [(o, eMM r mv fr I L), ((r 30), aI k 5 pl)] (fun _ => True)) (q_X8_rate D k o r mv fr I L pl x pn (va_A [(o, eMM r mv fr I L), ((r 30), aI k 5 pl)] sz)) 0 0 (va_A [(o, eMM r mv fr I L), ((r 30), aI k 5 pl)] sz) := by
  refine Met.start (Qc := q_X8_rate D k o r mv fr I L pl x pn) (by decide) (Nat.le_of_ble_eq_true rfl) ?_
  intro p e s m below meth c A hx hb hr hlocks hml hown hin hts hg hP hD hA hAn hS hY hsz ls hl
  have hown : s.vm.findClass RX8 = some m.cls := hown
  have hl : lv_has ls 2 [(0, .ref o), (1, .int x)] := hl
  refine lv_aload_n hx hb dX8_rate_0 rfl (lv_at hl 0 rfl) ?_
  refine lv_iconst (v := 0) hx hb dX8_rate_1 ci_0 ?_
  refine va_put (D := D) (ci := 10) (v := .int 0) (C := RX8) (T := TX8) (N := 37) hx hb hts in_X8 tyX8 tyX8_ok nmX8 hown hg.1 hP hD hS 0 rfl rfl 0 (Nat.le_of_ble_eq_true rfl) (hts _ q1141) (fun _ h9 => h9) rfl ftX8_0 rfl rfl (Nat.le_of_ble_eq_true rfl) dX8_rate_2 (fun H locs hP hD hS => ?_)
  replace hP : va_P D vwCl [(o, eMM r mv fr (upd I 0 0) L), ((r 30), aI k 5 pl)] H := hP
  replace hD : va_D A [(o, eMM r mv fr (upd I 0 0) L), ((r 30), aI k 5 pl)] := hD
  refine lv_iload_n hx hb dX8_rate_5 rfl (lv_at hl 1 rfl) ?_
  have Jn1 : ∀ (v5 : (Int32)) (H : Heap) (locs : List Loc) (ls : Array Slot), v5 = f_X8_rate_j1 I pl x → va_P D vwCl [(o, eMM r mv fr (upd I 0 0) L), ((r 30), aI k 5 pl)] H → va_D A [(o, eMM r mv fr (upd I 0 0) L), ((r 30), aI k 5 pl)] → va_S A s.heap H locs → lv_has ls 2 [(0, .ref o), (1, .int x)] → W p l e rm_X8_rate s m ([.ref o, .int x] : List Value).toArray below meth c H locs 0 0 (MQ below (q_X8_rate D k o r mv fr I L pl x pn A) ([.ref o, .int x] : List Value).toArray s 0 0 A) (F0 m 27 ls [.int v5]) := by
    intro v5 H locs ls ev5 hP hD hS hl
    exact xret_i hx hb hr hlocks (Nat.le_of_ble_eq_true rfl) (Nat.le_of_ble_eq_true rfl) hS.2.2 dX8_rate_27 (fun t ht => ⟨⟨v5, (v5, 0), rfl, ⟨rfl, (by subst ev5; exact rfl)⟩, by rw [ht]; exact hP, hD⟩, hS.F ht⟩)
  refine lv_if_lt (tgt := 26) hx hb dX8_rate_6 (by decide) (fun c6 => ?_) (fun c6 => ?_)
  · refine lv_iconst (v := (-1)) hx hb dX8_rate_26 ci_m1 ?_
    exact Jn1 (-1) _ _ _ (by exact Eq.symm (Eq.trans (if_pos c6) (rfl))) hP hD hS (lv_sub hl [0, 1] rfl)
  · refine lv_iload_n hx hb dX8_rate_9 rfl (lv_at hl 1 rfl) ?_
    refine lv_aload_n hx hb dX8_rate_10 rfl (lv_at hl 0 rfl) ?_
    refine va_get (D := D) (ci := 10) (v := .int (I 29)) (C := RX8) (T := TX8) (N := 37) hx hb hts in_X8 hown hg.1 hP 0 rfl rfl 29 (Nat.le_of_ble_eq_true rfl) (hts _ q1170) (fun _ h9 => h9) rfl dX8_rate_11 ?_
    refine lv_icmp_ge (tgt := 26) hx hb dX8_rate_14 (by decide) (fun c7 => ?_) (fun c7 => ?_)
    · refine lv_iconst (v := (-1)) hx hb dX8_rate_26 ci_m1 ?_
      exact Jn1 (-1) _ _ _ (by exact Eq.symm (Eq.trans (if_neg c6) (Eq.trans (if_pos c7) (rfl)))) hP hD hS (lv_sub hl [0, 1] rfl)
    · obtain ⟨hn_x, hb_x⟩ := xnrl hpn (by omega) c6 c7
      refine lv_aload_n hx hb dX8_rate_17 rfl (lv_at hl 0 rfl) ?_
      refine va_get (D := D) (ci := 10) (v := .ref (r 30)) (C := RX8) (T := TX8) (N := 37) hx hb hts in_X8 hown hg.1 hP 0 rfl rfl 30 (Nat.le_of_ble_eq_true rfl) (hts _ q1171) (fun _ h9 => h9) rfl dX8_rate_18 ?_
      refine lv_iload_n hx hb dX8_rate_21 rfl (lv_at hl 1 rfl) ?_
      refine xa_iald hx hb hg hP 1 rfl hn_x (by first | omega | exact Nat.lt_of_lt_of_le (Nat.mod_lt _ (by omega)) (by omega)) (by omega) dX8_rate_22 ?_
      refine lv_goto (tgt := 27) hx hb dX8_rate_23 (by decide) ?_
      exact Jn1 (pl x.toNatClampNeg) _ _ _ (by exact Eq.symm (Eq.trans (if_neg c6) (Eq.trans (if_neg c7) (rfl)))) hP hD hS (lv_sub hl [0, 1] rfl)

def f_X8_clear (rw : Nat → Int32) : Int32 × Int32 × (Nat → Int32) :=
  let x1 := ((rw 0) + (rw 1))
  let f2 := upd rw 0 0
  let f3 := upd f2 1 0
  (x1, 0, f3)
abbrev q_X8_clear (D : va_G) (k : KK) (o : Nat) (r : Nat → Nat) (mv : Value) (fr : Value) (I : Nat → Int32) (L : Nat → Int64) (rw : Nat → Int32) (A : Nat → Prop) : Array Value → State → Outcome → State → Prop := va_Qi (fun (r_ : Int32) (u : Int32 × Int32 × (Nat → Int32)) => r_ = u.1 ∧ u = f_X8_clear rw) (bx D (fun u => [(o, eMM r mv fr (upd I 0 u.2.1) L), ((r 33), aI k 2 u.2.2)]) A) A
abbrev rm_X8_clear : Room := { frames := 3, cells := 0, slots := 0, locals := 120 }
theorem xo_X8_clear : xok yX8_clear 0 := by unfold xok; decide +kernel
set_option maxHeartbeats 8000000 in
theorem m_X8_clear (l : Launch) (D : va_G) (k : KK) (sz : Nat) (o : Nat) (r : Nat → Nat) (mv : Value) (fr : Value) (I : Nat → Int32) (L : Nat → Int64) (rw : Nat → Int32)  : Met l yX8_clear (ws_ yX8_clear cX8_clear 2 (some .int)) rm_X8_clear (pcx D k [.ref o] sz [(o, eMM r mv fr I L), ((r 33), aI k 2 rw)] (fun _ => True)) (q_X8_clear D k o r mv fr I L rw (va_A [(o, eMM r mv fr I L), ((r 33), aI k 2 rw)] sz)) 0 0 (va_A [(o, eMM r mv fr I L), ((r 33), aI k 2 rw)] sz) := by
  refine Met.start (Qc := q_X8_clear D k o r mv fr I L rw) (by decide) (Nat.le_of_ble_eq_true rfl) ?_
  intro p e s m below meth c A hx hb hr hlocks hml hown hin hts hg hP hD hA hAn hS hY hsz ls hl
  have hown : s.vm.findClass RX8 = some m.cls := hown
  have hl : lv_has ls 2 [(0, .ref o)] := hl
  refine lv_aload_n hx hb dX8_clear_0 rfl (lv_at hl 0 rfl) ?_
  refine lv_iconst (v := 0) hx hb dX8_clear_1 ci_0 ?_
  refine va_put (D := D) (ci := 10) (v := .int 0) (C := RX8) (T := TX8) (N := 37) hx hb hts in_X8 tyX8 tyX8_ok nmX8 hown hg.1 hP hD hS 0 rfl rfl 0 (Nat.le_of_ble_eq_true rfl) (hts _ q1141) (fun _ h9 => h9) rfl ftX8_0 rfl rfl (Nat.le_of_ble_eq_true rfl) dX8_clear_2 (fun H locs hP hD hS => ?_)
  replace hP : va_P D vwCl [(o, eMM r mv fr (upd I 0 0) L), ((r 33), aI k 2 rw)] H := hP
  replace hD : va_D A [(o, eMM r mv fr (upd I 0 0) L), ((r 33), aI k 2 rw)] := hD
  refine lv_aload_n hx hb dX8_clear_5 rfl (lv_at hl 0 rfl) ?_
  refine va_get (D := D) (ci := 10) (v := .ref (r 33)) (C := RX8) (T := TX8) (N := 37) hx hb hts in_X8 hown hg.1 hP 0 rfl rfl 33 (Nat.le_of_ble_eq_true rfl) (hts _ q1174) (fun _ h9 => h9) rfl dX8_clear_6 ?_
  refine lv_iconst (v := 0) hx hb dX8_clear_9 ci_0 ?_
  refine xa_iald hx hb hg hP 1 rfl xl_0 (by first | omega | exact Nat.lt_of_lt_of_le (Nat.mod_lt _ (by omega)) (by omega)) (by omega) dX8_clear_10 ?_
  refine lv_aload_n hx hb dX8_clear_11 rfl (lv_at hl 0 rfl) ?_
  refine va_get (D := D) (ci := 10) (v := .ref (r 33)) (C := RX8) (T := TX8) (N := 37) hx hb hts in_X8 hown hg.1 hP 0 rfl rfl 33 (Nat.le_of_ble_eq_true rfl) (hts _ q1174) (fun _ h9 => h9) rfl dX8_clear_12 ?_
  refine lv_iconst (v := 1) hx hb dX8_clear_15 ci_1 ?_
  refine xa_iald hx hb hg hP 1 rfl xl_1 (by first | omega | exact Nat.lt_of_lt_of_le (Nat.mod_lt _ (by omega)) (by omega)) (by omega) dX8_clear_16 ?_
  refine lv_iadd hx hb dX8_clear_17 ?_
  refine lv_topi (fun x1 ex1 => ?_)
  refine lv_istore_n (lv' := [(1, .int x1), (0, .ref o)]) hx hb dX8_clear_18 rfl hl (Nat.le_of_ble_eq_true rfl) rfl (fun ls hl => ?_)
  refine lv_aload_n hx hb dX8_clear_19 rfl (lv_at hl 1 rfl) ?_
  refine va_get (D := D) (ci := 10) (v := .ref (r 33)) (C := RX8) (T := TX8) (N := 37) hx hb hts in_X8 hown hg.1 hP 0 rfl rfl 33 (Nat.le_of_ble_eq_true rfl) (hts _ q1174) (fun _ h9 => h9) rfl dX8_clear_20 ?_
  refine lv_iconst (v := 0) hx hb dX8_clear_23 ci_0 ?_
  refine lv_iconst (v := 0) hx hb dX8_clear_24 ci_0 ?_
  refine xa_iast hx hb hg hP hD hS 1 rfl xl_0 (by omega) (by omega) dX8_clear_25 (fun f2 H locs ef2 hP hD hS => ?_)
  replace hP : va_P D vwCl [(o, eMM r mv fr (upd I 0 0) L), ((r 33), aI k 2 f2)] H := hP
  replace hD : va_D A [(o, eMM r mv fr (upd I 0 0) L), ((r 33), aI k 2 f2)] := hD
  refine lv_aload_n hx hb dX8_clear_26 rfl (lv_at hl 1 rfl) ?_
  refine va_get (D := D) (ci := 10) (v := .ref (r 33)) (C := RX8) (T := TX8) (N := 37) hx hb hts in_X8 hown hg.1 hP 0 rfl rfl 33 (Nat.le_of_ble_eq_true rfl) (hts _ q1174) (fun _ h9 => h9) rfl dX8_clear_27 ?_
  refine lv_iconst (v := 1) hx hb dX8_clear_30 ci_1 ?_
  refine lv_iconst (v := 0) hx hb dX8_clear_31 ci_0 ?_
  refine xa_iast hx hb hg hP hD hS 1 rfl xl_1 (by omega) (by omega) dX8_clear_32 (fun f3 H locs ef3 hP hD hS => ?_)
  replace hP : va_P D vwCl [(o, eMM r mv fr (upd I 0 0) L), ((r 33), aI k 2 f3)] H := hP
  replace hD : va_D A [(o, eMM r mv fr (upd I 0 0) L), ((r 33), aI k 2 f3)] := hD
  refine lv_iload_n hx hb dX8_clear_33 rfl (lv_at hl 0 rfl) ?_
  exact xret_i hx hb hr hlocks (Nat.le_of_ble_eq_true rfl) (Nat.le_of_ble_eq_true rfl) hS.2.2 dX8_clear_34 (fun t ht => ⟨⟨x1, (x1, 0, f3), rfl, ⟨rfl, (by subst ef3; subst ef2; subst ex1; exact rfl)⟩, by rw [ht]; exact hP, hD⟩, hS.F ht⟩)

def f_X8_copies_l2 (sv : Nat → Int32) (i1 : Nat) (X1 : (Nat → Int32)) : (Nat → Int32) :=
  let x8 := (sv i1)
  let f9 := upd X1 i1 x8
  f9
def f_X8_copies (sv : Nat → Int32) (tw : Nat → Int32) : (Nat → Int32) :=
  let X1 := itN (f_X8_copies_l2 sv) 37 tw
  X1
abbrev q_X8_copies (D : va_G) (k : KK) (o : Nat) (r : Nat → Nat) (mv : Value) (fr : Value) (I : Nat → Int32) (L : Nat → Int64) (sv : Nat → Int32) (tw : Nat → Int32) (A : Nat → Prop) : Array Value → State → Outcome → State → Prop := va_Qv (fun (u : (Nat → Int32)) => u = f_X8_copies sv tw) (bx D (fun u => [(o, eMM r mv fr I L), ((r 16), aI k 37 sv), ((r 17), aI k 37 u)]) A) A
abbrev rm_X8_copies : Room := { frames := 1, cells := 0, slots := 0, locals := 40 }
theorem xo_X8_copies : xok yX8_copies 0 := by unfold xok; decide +kernel
set_option maxHeartbeats 8000000 in
theorem m_X8_copies (l : Launch) (D : va_G) (k : KK) (sz : Nat) (o : Nat) (r : Nat → Nat) (mv : Value) (fr : Value) (I : Nat → Int32) (L : Nat → Int64) (sv : Nat → Int32) (tw : Nat → Int32)  : Met l yX8_copies (ws_ yX8_copies cX8_copies 2 none) rm_X8_copies (pcx D k [.ref o] sz [(o, eMM r mv fr I L), ((r 16), aI k 37 sv), ((r 17), aI k 37 tw)] (fun _ => True)) (q_X8_copies D k o r mv fr I L sv tw (va_A [(o, eMM r mv fr I L), ((r 16), aI k 37 sv), ((r 17), aI k 37 tw)] sz)) 0 0 (va_A [(o, eMM r mv fr I L), ((r 16), aI k 37 sv), ((r 17), aI k 37 tw)] sz) := by
  refine Met.start (Qc := q_X8_copies D k o r mv fr I L sv tw) (by decide) (Nat.le_of_ble_eq_true rfl) ?_
  intro p e s m below meth c A hx hb hr hlocks hml hown hin hts hg hP hD hA hAn hS hY hsz ls hl
  have hown : s.vm.findClass RX8 = some m.cls := hown
  have hl : lv_has ls 2 [(0, .ref o)] := hl
  refine lv_iconst (v := 0) hx hb dX8_copies_0 ci_0 ?_
  refine lv_istore_n (lv' := [(1, .int 0), (0, .ref o)]) hx hb dX8_copies_1 rfl hl (Nat.le_of_ble_eq_true rfl) rfl (fun ls hl => ?_)
  have loop1 : ∀ (n1 i1 : Nat) (X1 : (Nat → Int32)) (H : Heap) (locs : List Loc) (ls : Array Slot), i1 + n1 = 37 → X1 = itN (f_X8_copies_l2 sv) i1 tw → va_P D vwCl [(o, eMM r mv fr I L), ((r 16), aI k 37 sv), ((r 17), aI k 37 X1)] H → va_D A [(o, eMM r mv fr I L), ((r 16), aI k 37 sv), ((r 17), aI k 37 X1)] → va_S A s.heap H locs → lv_has ls 2 [(1, .int (nI i1)), (0, .ref o)] → W p l e rm_X8_copies s m ([.ref o] : List Value).toArray below meth c H locs 0 0 (MQ below (q_X8_copies D k o r mv fr I L sv tw A) ([.ref o] : List Value).toArray s 0 0 A) (F0 m 2 ls []) := by
    intro n1
    induction n1 with
    | zero =>
      intro i1 X1 H locs ls hn1 eX1 hP hD hS hl
      have hi1 : i1 = 37 := by omega
      rw [hi1] at eX1
      refine lv_iload_n hx hb dX8_copies_2 rfl (lv_at hl 0 rfl) ?_
      refine lv_bipush (v := 37) hx hb dX8_copies_3 cb_37 ?_
      refine lv_icmp_ge (tgt := 26) hx hb dX8_copies_5 (by decide) (fun _ => ?_) (fun c => absurd (xle_t xl_37 rfl (by omega) (by omega)) c)
      exact xret_v hx hb hr hlocks (Nat.le_of_ble_eq_true rfl) (Nat.le_of_ble_eq_true rfl) hS.2.2 dX8_copies_26 (fun t ht => ⟨⟨X1, rfl, (by subst eX1; exact rfl), by rw [ht]; exact hP, hD⟩, hS.F ht⟩)
    | succ n1 ih1 =>
      intro i1 X1 H locs ls hn1 eX1 hP hD hS hl
      have hi1 : i1 < 37 := by omega
      refine lv_iload_n hx hb dX8_copies_2 rfl (lv_at hl 0 rfl) ?_
      refine lv_bipush (v := 37) hx hb dX8_copies_3 cb_37 ?_
      refine lv_icmp_ge (tgt := 26) hx hb dX8_copies_5 (by decide) (fun c => absurd c (xle_f xl_37 rfl (by omega) (by omega))) (fun _ => ?_)
      refine lv_aload_n hx hb dX8_copies_8 rfl (lv_at hl 1 rfl) ?_
      refine va_get (D := D) (ci := 10) (v := .ref (r 17)) (C := RX8) (T := TX8) (N := 37) hx hb hts in_X8 hown hg.1 hP 0 rfl rfl 17 (Nat.le_of_ble_eq_true rfl) (hts _ q1158) (fun _ h9 => h9) rfl dX8_copies_9 ?_
      refine lv_iload_n hx hb dX8_copies_12 rfl (lv_at hl 0 rfl) ?_
      refine lv_aload_n hx hb dX8_copies_13 rfl (lv_at hl 1 rfl) ?_
      refine va_get (D := D) (ci := 10) (v := .ref (r 16)) (C := RX8) (T := TX8) (N := 37) hx hb hts in_X8 hown hg.1 hP 0 rfl rfl 16 (Nat.le_of_ble_eq_true rfl) (hts _ q1157) (fun _ h9 => h9) rfl dX8_copies_14 ?_
      refine lv_iload_n hx hb dX8_copies_17 rfl (lv_at hl 0 rfl) ?_
      refine xa_iald hx hb hg hP 1 rfl rfl (by first | omega | exact Nat.lt_of_lt_of_le (Nat.mod_lt _ (by omega)) (by omega)) (by omega) dX8_copies_18 ?_
      refine lv_topi (fun x8 ex8 => ?_)
      refine xa_iast hx hb hg hP hD hS 2 rfl rfl (by omega) (by omega) dX8_copies_19 (fun f9 H locs ef9 hP hD hS => ?_)
      replace hP : va_P D vwCl [(o, eMM r mv fr I L), ((r 16), aI k 37 sv), ((r 17), aI k 37 f9)] H := hP
      replace hD : va_D A [(o, eMM r mv fr I L), ((r 16), aI k 37 sv), ((r 17), aI k 37 f9)] := hD
      refine lv_iinc (v := (nI (i1 + 1))) (lv' := [(1, .int (nI (i1 + 1))), (0, .ref o)]) hx hb dX8_copies_20 hl (k := 0) rfl (xinc1 _) (Nat.le_of_ble_eq_true rfl) rfl (fun ls hl => ?_)
      refine lv_goto (tgt := 2) hx hb dX8_copies_23 (by decide) ?_
      exact ih1 (i1 + 1) f9 _ _ _ (by omega) (Eq.trans (by subst ef9; subst ex8; exact rfl) (congrArg (f_X8_copies_l2 sv i1) eX1)) hP hD hS (lv_sub hl [0, 1] rfl)
  exact loop1 37 0 tw _ _ _ (by omega) rfl hP hD hS (by have h := (lv_sub hl [0, 1] rfl); exact h)

def f_X8_size (I : Nat → Int32) (MI : Nat → Int32) (x : Int32) : Int32 × Int32 :=
  if x = 11 then
    ((I 6), 0)
  else
    let u2 := f_X8_in x 0 10
    if u2 = 0 then
      ((-1), 0)
    else
      if x = 0 then
        ((MI 8), 0)
      else
        if x = 1 then
          ((MI 9), 0)
        else
          if x = 2 then
            ((MI 0), 0)
          else
            if x = 3 then
              ((MI 1), 0)
            else
              if x = 4 then
                ((MI 2), 0)
              else
                if x = 5 then
                  ((MI 3), 0)
                else
                  if x = 6 then
                    ((MI 4), 0)
                  else
                    if x = 7 then
                      ((MI 5), 0)
                    else
                      if x = 8 then
                        ((MI 6), 0)
                      else
                        if x = 9 then
                          ((MI 7), 0)
                        else
                          ((I 23), 0)
abbrev q_X8_size (D : va_G) (k : KK) (o : Nat) (r : Nat → Nat) (fr : Value) (I : Nat → Int32) (L : Nat → Int64) (ma : Nat) (mr : Nat → Nat) (MI : Nat → Int32) (x : Int32) (A : Nat → Prop) : Array Value → State → Outcome → State → Prop := va_Qi (fun (r_ : Int32) (u : Int32 × Int32) => r_ = u.1 ∧ u = f_X8_size I MI x) (bx D (fun u => [(o, eMM r (.ref ma) fr (upd I 0 u.2) L), (ma, eMI mr MI)]) A) A
abbrev rm_X8_size : Room := { frames := 2, cells := 0, slots := 0, locals := 80 }
theorem xo_X8_size : xok yX8_size 1 := by unfold xok; decide +kernel
set_option maxHeartbeats 8000000 in
theorem m_X8_size (l : Launch) (D : va_G) (k : KK) (sz : Nat) (o : Nat) (r : Nat → Nat) (fr : Value) (I : Nat → Int32) (L : Nat → Int64) (ma : Nat) (mr : Nat → Nat) (MI : Nat → Int32) (x : Int32)  : Met l yX8_size (ws_ yX8_size cX8_size 2 (some .int)) rm_X8_size (pcx D k [.ref o, .int x] sz [(o, eMM r (.ref ma) fr I L), (ma, eMI mr MI)] (fun _ => True)) (q_X8_size D k o r fr I L ma mr MI x (va_A [(o, eMM r (.ref ma) fr I L), (ma, eMI mr MI)] sz)) 0 0 (va_A [(o, eMM r (.ref ma) fr I L), (ma, eMI mr MI)] sz) := by
  refine Met.start (Qc := q_X8_size D k o r fr I L ma mr MI x) (by decide) (Nat.le_of_ble_eq_true rfl) ?_
  intro p e s m below meth c A hx hb hr hlocks hml hown hin hts hg hP hD hA hAn hS hY hsz ls hl
  have hown : s.vm.findClass RX8 = some m.cls := hown
  have hl : lv_has ls 2 [(0, .ref o), (1, .int x)] := hl
  refine lv_aload_n hx hb dX8_size_0 rfl (lv_at hl 0 rfl) ?_
  refine lv_iconst (v := 0) hx hb dX8_size_1 ci_0 ?_
  refine va_put (D := D) (ci := 10) (v := .int 0) (C := RX8) (T := TX8) (N := 37) hx hb hts in_X8 tyX8 tyX8_ok nmX8 hown hg.1 hP hD hS 0 rfl rfl 0 (Nat.le_of_ble_eq_true rfl) (hts _ q1141) (fun _ h9 => h9) rfl ftX8_0 rfl rfl (Nat.le_of_ble_eq_true rfl) dX8_size_2 (fun H locs hP hD hS => ?_)
  replace hP : va_P D vwCl [(o, eMM r (.ref ma) fr (upd I 0 0) L), (ma, eMI mr MI)] H := hP
  replace hD : va_D A [(o, eMM r (.ref ma) fr (upd I 0 0) L), (ma, eMI mr MI)] := hD
  refine lv_iload_n hx hb dX8_size_5 rfl (lv_at hl 1 rfl) ?_
  refine lv_bipush (v := 11) hx hb dX8_size_6 cb_11 ?_
  refine lv_icmp_ne (tgt := 16) hx hb dX8_size_8 (by decide) (fun c1 => ?_) (fun c1 => ?_)
  · refine lv_iload_n hx hb dX8_size_16 rfl (lv_at hl 1 rfl) ?_
    refine lv_iconst (v := 0) hx hb dX8_size_17 ci_0 ?_
    refine lv_bipush (v := 10) hx hb dX8_size_18 cb_10 ?_
    refine xc_i (wc := []) (wr := [(o, eMM r (.ref ma) fr (upd I 0 0) L), (ma, eMI mr MI)]) hP hD hS hA [] [0, 1] rfl rfl rfl (by decide) (xrS ⟨hx, hb, hml, hown, hts⟩ hg (m_X8_in l D k _ x 0 10) hP hD [] rfl rfl trivial q1426 q1427 q93 q1428 xo_X8_in ⟨rfl, rfl⟩ ⟨Nat.le_of_ble_eq_true rfl, Nat.le_of_ble_eq_true rfl⟩ hl.1 (Nat.le_of_ble_eq_true rfl) dX8_size_20 ⟨Nat.le_of_ble_eq_true rfl, Nat.le_of_ble_eq_true rfl⟩ rfl) (fun u2 r_ H locs hw hP hD hS hk => ?_)
    obtain ⟨rfl, eu2, bu2⟩ := hw
    replace hP : va_P D vwCl [(o, eMM r (.ref ma) fr (upd I 0 0) L), (ma, eMI mr MI)] H := hP.sub [0, 1] rfl
    replace hD : va_D A [(o, eMM r (.ref ma) fr (upd I 0 0) L), (ma, eMI mr MI)] := hD.sub [0, 1] (by decide) rfl
    refine lv_if_ne (tgt := 28) hx hb dX8_size_23 (by decide) (fun c3 => ?_) (fun c3 => ?_)
    · refine lv_aload_n hx hb dX8_size_28 rfl (lv_at hl 0 rfl) ?_
      refine va_get (D := D) (ci := 10) (v := .ref ma) (C := RX8) (T := TX8) (N := 37) hx hb hts in_X8 hown hg.1 hP 0 rfl rfl 3 (Nat.le_of_ble_eq_true rfl) (hts _ q1144) (fun _ h9 => h9) rfl dX8_size_29 ?_
      refine lv_ifnonnull (tgt := 37) hx hb dX8_size_32 (by decide) ?_
      refine lv_iload_n hx hb dX8_size_37 rfl (lv_at hl 1 rfl) ?_
      by_cases c4 : x = 0
      · refine lv_tableIn (off := 54) (tgt := 92) hx hb dX8_size_38 (by rw [c4]; decide) (by rw [c4]; decide) (by rw [c4]; decide) (by decide) ?_
        refine lv_aload_n hx hb dX8_size_92 rfl (lv_at hl 0 rfl) ?_
        refine va_get (D := D) (ci := 10) (v := .ref ma) (C := RX8) (T := TX8) (N := 37) hx hb hts in_X8 hown hg.1 hP 0 rfl rfl 3 (Nat.le_of_ble_eq_true rfl) (hts _ q1144) (fun _ h9 => h9) rfl dX8_size_93 ?_
        refine va_getN (D := D) (ci := 11) (v := .int (MI 8)) (C := RX13) (T := TX13) (N := 18) hx hb hts in_X13 hown hg.1 hP 1 rfl rfl 8 (Nat.le_of_ble_eq_true rfl) (nwF_191 hg) (fun _ h9 => h9) rfl dX8_size_96 ?_
        exact xret_i hx hb hr hlocks (Nat.le_of_ble_eq_true rfl) (Nat.le_of_ble_eq_true rfl) hS.2.2 dX8_size_99 (fun t ht => ⟨⟨(MI 8), ((MI 8), 0), rfl, ⟨rfl, (by subst eu2; exact Eq.symm (Eq.trans (if_neg c1) (Eq.trans (if_neg c3) (Eq.trans (if_pos c4) (rfl)))))⟩, by rw [ht]; exact hP, hD⟩, hS.F ht⟩)
      · by_cases c5 : x = 1
        · refine lv_tableIn (off := 62) (tgt := 100) hx hb dX8_size_38 (by rw [c5]; decide) (by rw [c5]; decide) (by rw [c5]; decide) (by decide) ?_
          refine lv_aload_n hx hb dX8_size_100 rfl (lv_at hl 0 rfl) ?_
          refine va_get (D := D) (ci := 10) (v := .ref ma) (C := RX8) (T := TX8) (N := 37) hx hb hts in_X8 hown hg.1 hP 0 rfl rfl 3 (Nat.le_of_ble_eq_true rfl) (hts _ q1144) (fun _ h9 => h9) rfl dX8_size_101 ?_
          refine va_getN (D := D) (ci := 11) (v := .int (MI 9)) (C := RX13) (T := TX13) (N := 18) hx hb hts in_X13 hown hg.1 hP 1 rfl rfl 9 (Nat.le_of_ble_eq_true rfl) (nwF_194 hg) (fun _ h9 => h9) rfl dX8_size_104 ?_
          exact xret_i hx hb hr hlocks (Nat.le_of_ble_eq_true rfl) (Nat.le_of_ble_eq_true rfl) hS.2.2 dX8_size_107 (fun t ht => ⟨⟨(MI 9), ((MI 9), 0), rfl, ⟨rfl, (by subst eu2; exact Eq.symm (Eq.trans (if_neg c1) (Eq.trans (if_neg c3) (Eq.trans (if_neg c4) (Eq.trans (if_pos c5) (rfl))))))⟩, by rw [ht]; exact hP, hD⟩, hS.F ht⟩)
        · by_cases c6 : x = 2
          · refine lv_tableIn (off := 70) (tgt := 108) hx hb dX8_size_38 (by rw [c6]; decide) (by rw [c6]; decide) (by rw [c6]; decide) (by decide) ?_
            refine lv_aload_n hx hb dX8_size_108 rfl (lv_at hl 0 rfl) ?_
            refine va_get (D := D) (ci := 10) (v := .ref ma) (C := RX8) (T := TX8) (N := 37) hx hb hts in_X8 hown hg.1 hP 0 rfl rfl 3 (Nat.le_of_ble_eq_true rfl) (hts _ q1144) (fun _ h9 => h9) rfl dX8_size_109 ?_
            refine va_getN (D := D) (ci := 11) (v := .int (MI 0)) (C := RX13) (T := TX13) (N := 18) hx hb hts in_X13 hown hg.1 hP 1 rfl rfl 0 (Nat.le_of_ble_eq_true rfl) (nwF_176 hg) (fun _ h9 => h9) rfl dX8_size_112 ?_
            exact xret_i hx hb hr hlocks (Nat.le_of_ble_eq_true rfl) (Nat.le_of_ble_eq_true rfl) hS.2.2 dX8_size_115 (fun t ht => ⟨⟨(MI 0), ((MI 0), 0), rfl, ⟨rfl, (by subst eu2; exact Eq.symm (Eq.trans (if_neg c1) (Eq.trans (if_neg c3) (Eq.trans (if_neg c4) (Eq.trans (if_neg c5) (Eq.trans (if_pos c6) (rfl)))))))⟩, by rw [ht]; exact hP, hD⟩, hS.F ht⟩)
          · by_cases c7 : x = 3
            · refine lv_tableIn (off := 78) (tgt := 116) hx hb dX8_size_38 (by rw [c7]; decide) (by rw [c7]; decide) (by rw [c7]; decide) (by decide) ?_
              refine lv_aload_n hx hb dX8_size_116 rfl (lv_at hl 0 rfl) ?_
              refine va_get (D := D) (ci := 10) (v := .ref ma) (C := RX8) (T := TX8) (N := 37) hx hb hts in_X8 hown hg.1 hP 0 rfl rfl 3 (Nat.le_of_ble_eq_true rfl) (hts _ q1144) (fun _ h9 => h9) rfl dX8_size_117 ?_
              refine va_getN (D := D) (ci := 11) (v := .int (MI 1)) (C := RX13) (T := TX13) (N := 18) hx hb hts in_X13 hown hg.1 hP 1 rfl rfl 1 (Nat.le_of_ble_eq_true rfl) (nwF_233 hg) (fun _ h9 => h9) rfl dX8_size_120 ?_
              exact xret_i hx hb hr hlocks (Nat.le_of_ble_eq_true rfl) (Nat.le_of_ble_eq_true rfl) hS.2.2 dX8_size_123 (fun t ht => ⟨⟨(MI 1), ((MI 1), 0), rfl, ⟨rfl, (by subst eu2; exact Eq.symm (Eq.trans (if_neg c1) (Eq.trans (if_neg c3) (Eq.trans (if_neg c4) (Eq.trans (if_neg c5) (Eq.trans (if_neg c6) (Eq.trans (if_pos c7) (rfl))))))))⟩, by rw [ht]; exact hP, hD⟩, hS.F ht⟩)
            · by_cases c8 : x = 4
              · refine lv_tableIn (off := 86) (tgt := 124) hx hb dX8_size_38 (by rw [c8]; decide) (by rw [c8]; decide) (by rw [c8]; decide) (by decide) ?_
                refine lv_aload_n hx hb dX8_size_124 rfl (lv_at hl 0 rfl) ?_
                refine va_get (D := D) (ci := 10) (v := .ref ma) (C := RX8) (T := TX8) (N := 37) hx hb hts in_X8 hown hg.1 hP 0 rfl rfl 3 (Nat.le_of_ble_eq_true rfl) (hts _ q1144) (fun _ h9 => h9) rfl dX8_size_125 ?_
                refine va_getN (D := D) (ci := 11) (v := .int (MI 2)) (C := RX13) (T := TX13) (N := 18) hx hb hts in_X13 hown hg.1 hP 1 rfl rfl 2 (Nat.le_of_ble_eq_true rfl) (nwF_181 hg) (fun _ h9 => h9) rfl dX8_size_128 ?_
                exact xret_i hx hb hr hlocks (Nat.le_of_ble_eq_true rfl) (Nat.le_of_ble_eq_true rfl) hS.2.2 dX8_size_131 (fun t ht => ⟨⟨(MI 2), ((MI 2), 0), rfl, ⟨rfl, (by subst eu2; exact Eq.symm (Eq.trans (if_neg c1) (Eq.trans (if_neg c3) (Eq.trans (if_neg c4) (Eq.trans (if_neg c5) (Eq.trans (if_neg c6) (Eq.trans (if_neg c7) (Eq.trans (if_pos c8) (rfl)))))))))⟩, by rw [ht]; exact hP, hD⟩, hS.F ht⟩)
              · by_cases c9 : x = 5
                · refine lv_tableIn (off := 94) (tgt := 132) hx hb dX8_size_38 (by rw [c9]; decide) (by rw [c9]; decide) (by rw [c9]; decide) (by decide) ?_
                  refine lv_aload_n hx hb dX8_size_132 rfl (lv_at hl 0 rfl) ?_
                  refine va_get (D := D) (ci := 10) (v := .ref ma) (C := RX8) (T := TX8) (N := 37) hx hb hts in_X8 hown hg.1 hP 0 rfl rfl 3 (Nat.le_of_ble_eq_true rfl) (hts _ q1144) (fun _ h9 => h9) rfl dX8_size_133 ?_
                  refine va_getN (D := D) (ci := 11) (v := .int (MI 3)) (C := RX13) (T := TX13) (N := 18) hx hb hts in_X13 hown hg.1 hP 1 rfl rfl 3 (Nat.le_of_ble_eq_true rfl) (nwF_248 hg) (fun _ h9 => h9) rfl dX8_size_136 ?_
                  exact xret_i hx hb hr hlocks (Nat.le_of_ble_eq_true rfl) (Nat.le_of_ble_eq_true rfl) hS.2.2 dX8_size_139 (fun t ht => ⟨⟨(MI 3), ((MI 3), 0), rfl, ⟨rfl, (by subst eu2; exact Eq.symm (Eq.trans (if_neg c1) (Eq.trans (if_neg c3) (Eq.trans (if_neg c4) (Eq.trans (if_neg c5) (Eq.trans (if_neg c6) (Eq.trans (if_neg c7) (Eq.trans (if_neg c8) (Eq.trans (if_pos c9) (rfl))))))))))⟩, by rw [ht]; exact hP, hD⟩, hS.F ht⟩)
                · by_cases c10 : x = 6
                  · refine lv_tableIn (off := 102) (tgt := 140) hx hb dX8_size_38 (by rw [c10]; decide) (by rw [c10]; decide) (by rw [c10]; decide) (by decide) ?_
                    refine lv_aload_n hx hb dX8_size_140 rfl (lv_at hl 0 rfl) ?_
                    refine va_get (D := D) (ci := 10) (v := .ref ma) (C := RX8) (T := TX8) (N := 37) hx hb hts in_X8 hown hg.1 hP 0 rfl rfl 3 (Nat.le_of_ble_eq_true rfl) (hts _ q1144) (fun _ h9 => h9) rfl dX8_size_141 ?_
                    refine va_getN (D := D) (ci := 11) (v := .int (MI 4)) (C := RX13) (T := TX13) (N := 18) hx hb hts in_X13 hown hg.1 hP 1 rfl rfl 4 (Nat.le_of_ble_eq_true rfl) (nwF_183 hg) (fun _ h9 => h9) rfl dX8_size_144 ?_
                    exact xret_i hx hb hr hlocks (Nat.le_of_ble_eq_true rfl) (Nat.le_of_ble_eq_true rfl) hS.2.2 dX8_size_147 (fun t ht => ⟨⟨(MI 4), ((MI 4), 0), rfl, ⟨rfl, (by subst eu2; exact Eq.symm (Eq.trans (if_neg c1) (Eq.trans (if_neg c3) (Eq.trans (if_neg c4) (Eq.trans (if_neg c5) (Eq.trans (if_neg c6) (Eq.trans (if_neg c7) (Eq.trans (if_neg c8) (Eq.trans (if_neg c9) (Eq.trans (if_pos c10) (rfl)))))))))))⟩, by rw [ht]; exact hP, hD⟩, hS.F ht⟩)
                  · by_cases c11 : x = 7
                    · refine lv_tableIn (off := 110) (tgt := 148) hx hb dX8_size_38 (by rw [c11]; decide) (by rw [c11]; decide) (by rw [c11]; decide) (by decide) ?_
                      refine lv_aload_n hx hb dX8_size_148 rfl (lv_at hl 0 rfl) ?_
                      refine va_get (D := D) (ci := 10) (v := .ref ma) (C := RX8) (T := TX8) (N := 37) hx hb hts in_X8 hown hg.1 hP 0 rfl rfl 3 (Nat.le_of_ble_eq_true rfl) (hts _ q1144) (fun _ h9 => h9) rfl dX8_size_149 ?_
                      refine va_getN (D := D) (ci := 11) (v := .int (MI 5)) (C := RX13) (T := TX13) (N := 18) hx hb hts in_X13 hown hg.1 hP 1 rfl rfl 5 (Nat.le_of_ble_eq_true rfl) (nwF_186 hg) (fun _ h9 => h9) rfl dX8_size_152 ?_
                      exact xret_i hx hb hr hlocks (Nat.le_of_ble_eq_true rfl) (Nat.le_of_ble_eq_true rfl) hS.2.2 dX8_size_155 (fun t ht => ⟨⟨(MI 5), ((MI 5), 0), rfl, ⟨rfl, (by subst eu2; exact Eq.symm (Eq.trans (if_neg c1) (Eq.trans (if_neg c3) (Eq.trans (if_neg c4) (Eq.trans (if_neg c5) (Eq.trans (if_neg c6) (Eq.trans (if_neg c7) (Eq.trans (if_neg c8) (Eq.trans (if_neg c9) (Eq.trans (if_neg c10) (Eq.trans (if_pos c11) (rfl))))))))))))⟩, by rw [ht]; exact hP, hD⟩, hS.F ht⟩)
                    · by_cases c12 : x = 8
                      · refine lv_tableIn (off := 118) (tgt := 156) hx hb dX8_size_38 (by rw [c12]; decide) (by rw [c12]; decide) (by rw [c12]; decide) (by decide) ?_
                        refine lv_aload_n hx hb dX8_size_156 rfl (lv_at hl 0 rfl) ?_
                        refine va_get (D := D) (ci := 10) (v := .ref ma) (C := RX8) (T := TX8) (N := 37) hx hb hts in_X8 hown hg.1 hP 0 rfl rfl 3 (Nat.le_of_ble_eq_true rfl) (hts _ q1144) (fun _ h9 => h9) rfl dX8_size_157 ?_
                        refine va_getN (D := D) (ci := 11) (v := .int (MI 6)) (C := RX13) (T := TX13) (N := 18) hx hb hts in_X13 hown hg.1 hP 1 rfl rfl 6 (Nat.le_of_ble_eq_true rfl) (nwF_252 hg) (fun _ h9 => h9) rfl dX8_size_160 ?_
                        exact xret_i hx hb hr hlocks (Nat.le_of_ble_eq_true rfl) (Nat.le_of_ble_eq_true rfl) hS.2.2 dX8_size_163 (fun t ht => ⟨⟨(MI 6), ((MI 6), 0), rfl, ⟨rfl, (by subst eu2; exact Eq.symm (Eq.trans (if_neg c1) (Eq.trans (if_neg c3) (Eq.trans (if_neg c4) (Eq.trans (if_neg c5) (Eq.trans (if_neg c6) (Eq.trans (if_neg c7) (Eq.trans (if_neg c8) (Eq.trans (if_neg c9) (Eq.trans (if_neg c10) (Eq.trans (if_neg c11) (Eq.trans (if_pos c12) (rfl)))))))))))))⟩, by rw [ht]; exact hP, hD⟩, hS.F ht⟩)
                      · by_cases c13 : x = 9
                        · refine lv_tableIn (off := 126) (tgt := 164) hx hb dX8_size_38 (by rw [c13]; decide) (by rw [c13]; decide) (by rw [c13]; decide) (by decide) ?_
                          refine lv_aload_n hx hb dX8_size_164 rfl (lv_at hl 0 rfl) ?_
                          refine va_get (D := D) (ci := 10) (v := .ref ma) (C := RX8) (T := TX8) (N := 37) hx hb hts in_X8 hown hg.1 hP 0 rfl rfl 3 (Nat.le_of_ble_eq_true rfl) (hts _ q1144) (fun _ h9 => h9) rfl dX8_size_165 ?_
                          refine va_getN (D := D) (ci := 11) (v := .int (MI 7)) (C := RX13) (T := TX13) (N := 18) hx hb hts in_X13 hown hg.1 hP 1 rfl rfl 7 (Nat.le_of_ble_eq_true rfl) (nwF_188 hg) (fun _ h9 => h9) rfl dX8_size_168 ?_
                          exact xret_i hx hb hr hlocks (Nat.le_of_ble_eq_true rfl) (Nat.le_of_ble_eq_true rfl) hS.2.2 dX8_size_171 (fun t ht => ⟨⟨(MI 7), ((MI 7), 0), rfl, ⟨rfl, (by subst eu2; exact Eq.symm (Eq.trans (if_neg c1) (Eq.trans (if_neg c3) (Eq.trans (if_neg c4) (Eq.trans (if_neg c5) (Eq.trans (if_neg c6) (Eq.trans (if_neg c7) (Eq.trans (if_neg c8) (Eq.trans (if_neg c9) (Eq.trans (if_neg c10) (Eq.trans (if_neg c11) (Eq.trans (if_neg c12) (Eq.trans (if_pos c13) (rfl))))))))))))))⟩, by rw [ht]; exact hP, hD⟩, hS.F ht⟩)
                        · refine lv_tableOut (tgt := 172) hx hb dX8_size_38 (by have h0_ := lv_neT c4 (show (0 : Int32).toInt = 0 from by decide); have h1_ := lv_neT c5 (show (1 : Int32).toInt = 1 from by decide); have h2_ := lv_neT c6 (show (2 : Int32).toInt = 2 from by decide); have h3_ := lv_neT c7 (show (3 : Int32).toInt = 3 from by decide); have h4_ := lv_neT c8 (show (4 : Int32).toInt = 4 from by decide); have h5_ := lv_neT c9 (show (5 : Int32).toInt = 5 from by decide); have h6_ := lv_neT c10 (show (6 : Int32).toInt = 6 from by decide); have h7_ := lv_neT c11 (show (7 : Int32).toInt = 7 from by decide); have h8_ := lv_neT c12 (show (8 : Int32).toInt = 8 from by decide); have h9_ := lv_neT c13 (show (9 : Int32).toInt = 9 from by decide); omega) (by decide) ?_
                          refine lv_aload_n hx hb dX8_size_172 rfl (lv_at hl 0 rfl) ?_
                          refine va_get (D := D) (ci := 10) (v := .int (I 23)) (C := RX8) (T := TX8) (N := 37) hx hb hts in_X8 hown hg.1 hP 0 rfl rfl 23 (Nat.le_of_ble_eq_true rfl) (hts _ q1164) (fun _ h9 => h9) rfl dX8_size_173 ?_
                          exact xret_i hx hb hr hlocks (Nat.le_of_ble_eq_true rfl) (Nat.le_of_ble_eq_true rfl) hS.2.2 dX8_size_176 (fun t ht => ⟨⟨(I 23), ((I 23), 0), rfl, ⟨rfl, (by subst eu2; exact Eq.symm (Eq.trans (if_neg c1) (Eq.trans (if_neg c3) (Eq.trans (if_neg c4) (Eq.trans (if_neg c5) (Eq.trans (if_neg c6) (Eq.trans (if_neg c7) (Eq.trans (if_neg c8) (Eq.trans (if_neg c9) (Eq.trans (if_neg c10) (Eq.trans (if_neg c11) (Eq.trans (if_neg c12) (Eq.trans (if_neg c13) (rfl))))))))))))))⟩, by rw [ht]; exact hP, hD⟩, hS.F ht⟩)
    · refine lv_iconst (v := (-1)) hx hb dX8_size_26 ci_m1 ?_
      exact xret_i hx hb hr hlocks (Nat.le_of_ble_eq_true rfl) (Nat.le_of_ble_eq_true rfl) hS.2.2 dX8_size_27 (fun t ht => ⟨⟨(-1), ((-1), 0), rfl, ⟨rfl, (by subst eu2; exact Eq.symm (Eq.trans (if_neg c1) (Eq.trans (if_pos c3) (rfl))))⟩, by rw [ht]; exact hP, hD⟩, hS.F ht⟩)
  · refine lv_aload_n hx hb dX8_size_11 rfl (lv_at hl 0 rfl) ?_
    refine va_get (D := D) (ci := 10) (v := .int (I 6)) (C := RX8) (T := TX8) (N := 37) hx hb hts in_X8 hown hg.1 hP 0 rfl rfl 6 (Nat.le_of_ble_eq_true rfl) (hts _ q1147) (fun _ h9 => h9) rfl dX8_size_12 ?_
    exact xret_i hx hb hr hlocks (Nat.le_of_ble_eq_true rfl) (Nat.le_of_ble_eq_true rfl) hS.2.2 dX8_size_15 (fun t ht => ⟨⟨(I 6), ((I 6), 0), rfl, ⟨rfl, (by exact Eq.symm (Eq.trans (if_pos c1) (rfl)))⟩, by rw [ht]; exact hP, hD⟩, hS.F ht⟩)

def f_X8_sizeN (I : Nat → Int32) (x : Int32) : Int32 × Int32 :=
  if x = 11 then
    ((I 6), 0)
  else
    let u2 := f_X8_in x 0 10
    if u2 = 0 then
      ((-1), 0)
    else
      (0, 0)
abbrev q_X8_sizeN (D : va_G) (k : KK) (o : Nat) (r : Nat → Nat) (fr : Value) (I : Nat → Int32) (L : Nat → Int64) (x : Int32) (A : Nat → Prop) : Array Value → State → Outcome → State → Prop := va_Qi (fun (r_ : Int32) (u : Int32 × Int32) => r_ = u.1 ∧ u = f_X8_sizeN I x) (bx D (fun u => [(o, eMM r .null fr (upd I 0 u.2) L)]) A) A
abbrev rm_X8_sizeN : Room := { frames := 2, cells := 0, slots := 0, locals := 80 }
set_option maxHeartbeats 8000000 in
theorem m_X8_sizeN (l : Launch) (D : va_G) (k : KK) (sz : Nat) (o : Nat) (r : Nat → Nat) (fr : Value) (I : Nat → Int32) (L : Nat → Int64) (x : Int32)  : Met l yX8_size (ws_ yX8_size cX8_size 2 (some .int)) rm_X8_sizeN (pcx D k [.ref o, .int x] sz [(o, eMM r .null fr I L)] (fun _ => True)) (q_X8_sizeN D k o r fr I L x (va_A [(o, eMM r .null fr I L)] sz)) 0 0 (va_A [(o, eMM r .null fr I L)] sz) := by
  refine Met.start (Qc := q_X8_sizeN D k o r fr I L x) (by decide) (Nat.le_of_ble_eq_true rfl) ?_
  intro p e s m below meth c A hx hb hr hlocks hml hown hin hts hg hP hD hA hAn hS hY hsz ls hl
  have hown : s.vm.findClass RX8 = some m.cls := hown
  have hl : lv_has ls 2 [(0, .ref o), (1, .int x)] := hl
  refine lv_aload_n hx hb dX8_size_0 rfl (lv_at hl 0 rfl) ?_
  refine lv_iconst (v := 0) hx hb dX8_size_1 ci_0 ?_
  refine va_put (D := D) (ci := 10) (v := .int 0) (C := RX8) (T := TX8) (N := 37) hx hb hts in_X8 tyX8 tyX8_ok nmX8 hown hg.1 hP hD hS 0 rfl rfl 0 (Nat.le_of_ble_eq_true rfl) (hts _ q1141) (fun _ h9 => h9) rfl ftX8_0 rfl rfl (Nat.le_of_ble_eq_true rfl) dX8_size_2 (fun H locs hP hD hS => ?_)
  replace hP : va_P D vwCl [(o, eMM r .null fr (upd I 0 0) L)] H := hP
  replace hD : va_D A [(o, eMM r .null fr (upd I 0 0) L)] := hD
  refine lv_iload_n hx hb dX8_size_5 rfl (lv_at hl 1 rfl) ?_
  refine lv_bipush (v := 11) hx hb dX8_size_6 cb_11 ?_
  refine lv_icmp_ne (tgt := 16) hx hb dX8_size_8 (by decide) (fun c1 => ?_) (fun c1 => ?_)
  · refine lv_iload_n hx hb dX8_size_16 rfl (lv_at hl 1 rfl) ?_
    refine lv_iconst (v := 0) hx hb dX8_size_17 ci_0 ?_
    refine lv_bipush (v := 10) hx hb dX8_size_18 cb_10 ?_
    refine xc_i (wc := []) (wr := [(o, eMM r .null fr (upd I 0 0) L)]) hP hD hS hA [] [0] rfl rfl rfl (by decide) (xrS ⟨hx, hb, hml, hown, hts⟩ hg (m_X8_in l D k _ x 0 10) hP hD [] rfl rfl trivial q1426 q1427 q93 q1428 xo_X8_in ⟨rfl, rfl⟩ ⟨Nat.le_of_ble_eq_true rfl, Nat.le_of_ble_eq_true rfl⟩ hl.1 (Nat.le_of_ble_eq_true rfl) dX8_size_20 ⟨Nat.le_of_ble_eq_true rfl, Nat.le_of_ble_eq_true rfl⟩ rfl) (fun u2 r_ H locs hw hP hD hS hk => ?_)
    obtain ⟨rfl, eu2, bu2⟩ := hw
    replace hP : va_P D vwCl [(o, eMM r .null fr (upd I 0 0) L)] H := hP.sub [0] rfl
    replace hD : va_D A [(o, eMM r .null fr (upd I 0 0) L)] := hD.sub [0] (by decide) rfl
    refine lv_if_ne (tgt := 28) hx hb dX8_size_23 (by decide) (fun c3 => ?_) (fun c3 => ?_)
    · refine lv_aload_n hx hb dX8_size_28 rfl (lv_at hl 0 rfl) ?_
      refine va_get (D := D) (ci := 10) (v := .null) (C := RX8) (T := TX8) (N := 37) hx hb hts in_X8 hown hg.1 hP 0 rfl rfl 3 (Nat.le_of_ble_eq_true rfl) (hts _ q1144) (fun _ h9 => h9) rfl dX8_size_29 ?_
      refine lv_ifnonnullN hx hb dX8_size_32 ?_
      refine lv_iconst (v := 0) hx hb dX8_size_35 ci_0 ?_
      exact xret_i hx hb hr hlocks (Nat.le_of_ble_eq_true rfl) (Nat.le_of_ble_eq_true rfl) hS.2.2 dX8_size_36 (fun t ht => ⟨⟨0, (0, 0), rfl, ⟨rfl, (by subst eu2; exact Eq.symm (Eq.trans (if_neg c1) (Eq.trans (if_neg c3) (rfl))))⟩, by rw [ht]; exact hP, hD⟩, hS.F ht⟩)
    · refine lv_iconst (v := (-1)) hx hb dX8_size_26 ci_m1 ?_
      exact xret_i hx hb hr hlocks (Nat.le_of_ble_eq_true rfl) (Nat.le_of_ble_eq_true rfl) hS.2.2 dX8_size_27 (fun t ht => ⟨⟨(-1), ((-1), 0), rfl, ⟨rfl, (by subst eu2; exact Eq.symm (Eq.trans (if_neg c1) (Eq.trans (if_pos c3) (rfl))))⟩, by rw [ht]; exact hP, hD⟩, hS.F ht⟩)
  · refine lv_aload_n hx hb dX8_size_11 rfl (lv_at hl 0 rfl) ?_
    refine va_get (D := D) (ci := 10) (v := .int (I 6)) (C := RX8) (T := TX8) (N := 37) hx hb hts in_X8 hown hg.1 hP 0 rfl rfl 6 (Nat.le_of_ble_eq_true rfl) (hts _ q1147) (fun _ h9 => h9) rfl dX8_size_12 ?_
    exact xret_i hx hb hr hlocks (Nat.le_of_ble_eq_true rfl) (Nat.le_of_ble_eq_true rfl) hS.2.2 dX8_size_15 (fun t ht => ⟨⟨(I 6), ((I 6), 0), rfl, ⟨rfl, (by exact Eq.symm (Eq.trans (if_pos c1) (rfl)))⟩, by rw [ht]; exact hP, hD⟩, hS.F ht⟩)
