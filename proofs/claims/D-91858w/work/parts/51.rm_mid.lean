set_option maxRecDepth 100000
def f_X1_put (ra_ : Int32) (wt : Int32) (oi : Int32) : Int32 × Int32 × Int32 :=
  (ra_, wt, oi)
abbrev q_X1_put (D : va_G) (k : KK) (se : Nat) (J : Nat → Int32) (ra_ : Int32) (wt : Int32) (oi : Int32) (A : Nat → Prop) : Array Value → State → Outcome → State → Prop := va_Qv (fun (u : Int32 × Int32 × Int32) => u = f_X1_put ra_ wt oi) (bx D (fun u => [(se, eSE (upd (upd (upd J 0 u.1) 1 u.2.1) 2 u.2.2))]) A) A
abbrev rm_X1_put : Room := { frames := 1, cells := 0, slots := 0, locals := 40 }
theorem xo_X1_put : xok yX1_put 4 := by unfold xok; decide +kernel
set_option maxHeartbeats 8000000 in
theorem m_X1_put (l : Launch) (D : va_G) (k : KK) (sz : Nat) (se : Nat) (J : Nat → Int32) (ra_ : Int32) (wt : Int32) (oi : Int32)  : Met l yX1_put (ws_ yX1_put cX1_put 4 none) rm_X1_put (pcx D k [.ref se, .int ra_, .int wt, .int oi] sz [(se, eSE J)] (fun _ => True)) (q_X1_put D k se J ra_ wt oi (va_A [(se, eSE J)] sz)) 0 0 (va_A [(se, eSE J)] sz) := by
  refine Met.start (Qc := q_X1_put D k se J ra_ wt oi) (by decide) (Nat.le_of_ble_eq_true rfl) ?_
  intro p e s m below meth c A hx hb hr hlocks hml hown hin hts hg hP hD hA hAn hS hY hsz ls hl
  have hown : s.vm.findClass RX1 = some m.cls := hown
  have hl : lv_has ls 4 [(0, .ref se), (1, .int ra_), (2, .int wt), (3, .int oi)] := hl
  refine lv_aload_n hx hb dX1_put_0 rfl (lv_at hl 0 rfl) ?_
  refine lv_iload_n hx hb dX1_put_1 rfl (lv_at hl 1 rfl) ?_
  refine va_put (D := D) (ci := 4) (v := .int ra_) (C := RX5) (T := TX5) (N := 3) hx hb hts in_X5 tyX5 tyX5_ok nmX5 hown hg.1 hP hD hS 0 rfl rfl 0 (Nat.le_of_ble_eq_true rfl) (hts _ q315) (fun _ h9 => h9) rfl ftX5_0 rfl rfl (Nat.le_of_ble_eq_true rfl) dX1_put_2 (fun H locs hP hD hS => ?_)
  replace hP : va_P D vwCl [(se, eSE (upd J 0 ra_))] H := hP
  replace hD : va_D A [(se, eSE (upd J 0 ra_))] := hD
  refine lv_aload_n hx hb dX1_put_5 rfl (lv_at hl 0 rfl) ?_
  refine lv_iload_n hx hb dX1_put_6 rfl (lv_at hl 2 rfl) ?_
  refine va_put (D := D) (ci := 4) (v := .int wt) (C := RX5) (T := TX5) (N := 3) hx hb hts in_X5 tyX5 tyX5_ok nmX5 hown hg.1 hP hD hS 0 rfl rfl 1 (Nat.le_of_ble_eq_true rfl) (hts _ q318) (fun _ h9 => h9) rfl ftX5_1 rfl rfl (Nat.le_of_ble_eq_true rfl) dX1_put_7 (fun H locs hP hD hS => ?_)
  replace hP : va_P D vwCl [(se, eSE (upd (upd J 0 ra_) 1 wt))] H := hP
  replace hD : va_D A [(se, eSE (upd (upd J 0 ra_) 1 wt))] := hD
  refine lv_aload_n hx hb dX1_put_10 rfl (lv_at hl 0 rfl) ?_
  refine lv_iload_n hx hb dX1_put_11 rfl (lv_at hl 3 rfl) ?_
  refine va_put (D := D) (ci := 4) (v := .int oi) (C := RX5) (T := TX5) (N := 3) hx hb hts in_X5 tyX5 tyX5_ok nmX5 hown hg.1 hP hD hS 0 rfl rfl 2 (Nat.le_of_ble_eq_true rfl) (hts _ q321) (fun _ h9 => h9) rfl ftX5_2 rfl rfl (Nat.le_of_ble_eq_true rfl) dX1_put_12 (fun H locs hP hD hS => ?_)
  replace hP : va_P D vwCl [(se, eSE (upd (upd (upd J 0 ra_) 1 wt) 2 oi))] H := hP
  replace hD : va_D A [(se, eSE (upd (upd (upd J 0 ra_) 1 wt) 2 oi))] := hD
  exact xret_v hx hb hr hlocks (Nat.le_of_ble_eq_true rfl) (Nat.le_of_ble_eq_true rfl) hS.2.2 dX1_put_15 (fun t ht => ⟨⟨(ra_, wt, oi), rfl, rfl, by rw [ht]; exact hP, hD⟩, hS.F ht⟩)

def f_X1_settingsWhy_j1 (wt : Int32) (u3 : Int32) : (Int32) :=
  if u3 = 0 then
    2
  else
    let u12 := f_X1_in wt 0 3
    if u12 = 0 then
      2
    else
      0
def f_X1_settingsWhy (ra_ : Int32) (wt : Int32) (oi : Int32) (WI : Nat → Int32) : Int32 :=
  let u1 := f_X1_in oi 0 ((WI 4) - 1)
  if u1 = 0 then
    1
  else
    let u3 := f_X1_in ra_ 0 3
    let v10 := f_X1_settingsWhy_j1 wt u3
    v10
abbrev q_X1_settingsWhy (D : va_G) (k : KK) (o : Nat) (r : Nat → Nat) (I : Nat → Int32) (L : Nat → Int64) (ra_ : Int32) (wt : Int32) (oi : Int32) (wa : Nat) (wd : WAd) (WI : Nat → Int32) (pr : Nat → Int32) (SI : Nat → Nat → Int32) (OI : Nat → Nat → Int32) (tn : Nat → Nat → Int32) (nS : Nat) (nO : Nat) (A : Nat → Prop) : Array Value → State → Outcome → State → Prop := va_Qi (fun (r_ : Int32) (u : Int32) => r_ = u ∧ u = f_X1_settingsWhy ra_ wt oi WI) (bx D (fun u => [(o, eRM r (.ref wa) I L)]) A) A
abbrev rm_X1_settingsWhy : Room := { frames := 2, cells := 0, slots := 0, locals := 80 }
theorem xo_X1_settingsWhy : xok yX1_settingsWhy 3 := by unfold xok; decide +kernel
set_option maxHeartbeats 8000000 in
theorem m_X1_settingsWhy (l : Launch) (D : va_G) (k : KK) (sz : Nat) (o : Nat) (r : Nat → Nat) (I : Nat → Int32) (L : Nat → Int64) (ra_ : Int32) (wt : Int32) (oi : Int32) (wa : Nat) (wd : WAd) (WI : Nat → Int32) (pr : Nat → Int32) (SI : Nat → Nat → Int32) (OI : Nat → Nat → Int32) (tn : Nat → Nat → Int32) (nS : Nat) (nO : Nat) (hnS : WI 3 = nI nS) (hnO : WI 4 = nI nO) (hS2 : 2 ≤ nS) (hS5 : nS ≤ 5) (hO4 : nO ≤ 4) : Met l yX1_settingsWhy (ws_ yX1_settingsWhy cX1_settingsWhy 4 (some .int)) rm_X1_settingsWhy (pcx D k [.ref o, .int ra_, .int wt, .int oi] sz [(o, eRM r (.ref wa) I L)] (wkY D k wa wd WI pr SI OI tn nS nO (va_A [(o, eRM r (.ref wa) I L)] sz))) (q_X1_settingsWhy D k o r I L ra_ wt oi wa wd WI pr SI OI tn nS nO (va_A [(o, eRM r (.ref wa) I L)] sz)) 0 0 (va_A [(o, eRM r (.ref wa) I L)] sz) := by
  refine Met.start (Qc := q_X1_settingsWhy D k o r I L ra_ wt oi wa wd WI pr SI OI tn nS nO) (by decide) (Nat.le_of_ble_eq_true rfl) ?_
  intro p e s m below meth c A hx hb hr hlocks hml hown hin hts hg hP hD hA hAn hS hY hsz ls hl
  have hown : s.vm.findClass RX1 = some m.cls := hown
  have hl : lv_has ls 4 [(0, .ref o), (1, .int ra_), (2, .int wt), (3, .int oi)] := hl
  have hW := wkY.mono hY hAn
  refine lv_aload_n hx hb dX1_settingsWhy_0 rfl (lv_at hl 0 rfl) ?_
  refine va_get (D := D) (ci := 0) (v := .ref wa) (C := RX1) (T := TX1) (N := 29) hx hb hts in_X1 hown hg.1 hP 0 rfl rfl 3 (Nat.le_of_ble_eq_true rfl) (hts _ q367) (fun _ h9 => h9) rfl dX1_settingsWhy_1 ?_
  refine lv_ifnull hx hb dX1_settingsWhy_4 ?_
  refine lv_iload_n hx hb dX1_settingsWhy_7 rfl (lv_at hl 3 rfl) ?_
  refine lv_iconst (v := 0) hx hb dX1_settingsWhy_8 ci_0 ?_
  refine lv_aload_n hx hb dX1_settingsWhy_9 rfl (lv_at hl 0 rfl) ?_
  refine va_get (D := D) (ci := 0) (v := .ref wa) (C := RX1) (T := TX1) (N := 29) hx hb hts in_X1 hown hg.1 hP 0 rfl rfl 3 (Nat.le_of_ble_eq_true rfl) (hts _ q367) (fun _ h9 => h9) rfl dX1_settingsWhy_10 ?_
  refine va_get (D := D) (ci := 7) (v := .int (WI 4)) (C := RX9) (T := TX9) (N := 13) hx hb hts in_X9 hown hg.1 (wkat hW hS).1 0 rfl rfl 4 (Nat.le_of_ble_eq_true rfl) (hts _ q506) (fun _ h9 => h9) rfl dX1_settingsWhy_13 ?_
  refine lv_iconst (v := 1) hx hb dX1_settingsWhy_16 ci_1 ?_
  refine lv_isub hx hb dX1_settingsWhy_17 ?_
  refine xc_i (wc := []) (wr := [(o, eRM r (.ref wa) I L)]) hP hD hS hA [] [0] rfl rfl rfl (by decide) (xrS ⟨hx, hb, hml, hown, hts⟩ hg (m_X1_in l D k _ oi 0 ((WI 4) - 1)) hP hD [] rfl rfl trivial q469 q470 q83 q471 xo_X1_in ⟨rfl, rfl⟩ ⟨Nat.le_of_ble_eq_true rfl, Nat.le_of_ble_eq_true rfl⟩ hl.1 (Nat.le_of_ble_eq_true rfl) dX1_settingsWhy_18 ⟨Nat.le_of_ble_eq_true rfl, Nat.le_of_ble_eq_true rfl⟩ rfl) (fun u1 r_ H locs hw hP hD hS hk => ?_)
  obtain ⟨rfl, eu1, bu1⟩ := hw
  replace hP : va_P D vwCl [(o, eRM r (.ref wa) I L)] H := hP.sub [0] rfl
  replace hD : va_D A [(o, eRM r (.ref wa) I L)] := hD.sub [0] (by decide) rfl
  refine lv_if_ne (tgt := 26) hx hb dX1_settingsWhy_21 (by decide) (fun c2 => ?_) (fun c2 => ?_)
  · refine lv_iload_n hx hb dX1_settingsWhy_26 rfl (lv_at hl 1 rfl) ?_
    refine lv_iconst (v := 0) hx hb dX1_settingsWhy_27 ci_0 ?_
    refine lv_iconst (v := 3) hx hb dX1_settingsWhy_28 ci_3 ?_
    refine xc_i (wc := []) (wr := [(o, eRM r (.ref wa) I L)]) hP hD hS hA [] [0] rfl rfl rfl (by decide) (xrS ⟨hx, hb, hml, hown, hts⟩ hg (m_X1_in l D k _ ra_ 0 3) hP hD [] rfl rfl trivial q469 q470 q83 q471 xo_X1_in ⟨rfl, rfl⟩ ⟨Nat.le_of_ble_eq_true rfl, Nat.le_of_ble_eq_true rfl⟩ hl.1 (Nat.le_of_ble_eq_true rfl) dX1_settingsWhy_29 ⟨Nat.le_of_ble_eq_true rfl, Nat.le_of_ble_eq_true rfl⟩ rfl) (fun u3 r_ H locs hw hP hD hS hk => ?_)
    obtain ⟨rfl, eu3, bu3⟩ := hw
    replace hP : va_P D vwCl [(o, eRM r (.ref wa) I L)] H := hP.sub [0] rfl
    replace hD : va_D A [(o, eRM r (.ref wa) I L)] := hD.sub [0] (by decide) rfl
    have Jn1 : ∀ (v10 : (Int32)) (H : Heap) (locs : List Loc) (ls : Array Slot), v10 = f_X1_settingsWhy_j1 wt u3 → va_P D vwCl [(o, eRM r (.ref wa) I L)] H → va_D A [(o, eRM r (.ref wa) I L)] → va_S A s.heap H locs → lv_has ls 4 [(0, .ref o), (1, .int ra_), (2, .int wt), (3, .int oi)] → W p l e rm_X1_settingsWhy s m ([.ref o, .int ra_, .int wt, .int oi] : List Value).toArray below meth c H locs 0 0 (MQ below (q_X1_settingsWhy D k o r I L ra_ wt oi wa wd WI pr SI OI tn nS nO A) ([.ref o, .int ra_, .int wt, .int oi] : List Value).toArray s 0 0 A) (F0 m 49 ls [.int v10]) := by
      intro v10 H locs ls ev10 hP hD hS hl
      exact xret_i hx hb hr hlocks (Nat.le_of_ble_eq_true rfl) (Nat.le_of_ble_eq_true rfl) hS.2.2 dX1_settingsWhy_49 (fun t ht => ⟨⟨v10, v10, rfl, ⟨rfl, (by subst ev10; subst eu3; subst eu1; exact Eq.symm (Eq.trans (if_neg c2) (rfl)))⟩, by rw [ht]; exact hP, hD⟩, hS.F ht⟩)
    refine lv_if_eq (tgt := 48) hx hb dX1_settingsWhy_32 (by decide) (fun c11 => ?_) (fun c11 => ?_)
    · refine lv_iconst (v := 2) hx hb dX1_settingsWhy_48 ci_2 ?_
      exact Jn1 2 _ _ _ (by exact Eq.symm (Eq.trans (if_pos c11) (rfl))) hP hD hS (lv_sub hl [0, 1, 2, 3] rfl)
    · refine lv_iload_n hx hb dX1_settingsWhy_35 rfl (lv_at hl 2 rfl) ?_
      refine lv_iconst (v := 0) hx hb dX1_settingsWhy_36 ci_0 ?_
      refine lv_iconst (v := 3) hx hb dX1_settingsWhy_37 ci_3 ?_
      refine xc_i (wc := []) (wr := [(o, eRM r (.ref wa) I L)]) hP hD hS hA [] [0] rfl rfl rfl (by decide) (xrS ⟨hx, hb, hml, hown, hts⟩ hg (m_X1_in l D k _ wt 0 3) hP hD [] rfl rfl trivial q469 q470 q83 q471 xo_X1_in ⟨rfl, rfl⟩ ⟨Nat.le_of_ble_eq_true rfl, Nat.le_of_ble_eq_true rfl⟩ hl.1 (Nat.le_of_ble_eq_true rfl) dX1_settingsWhy_38 ⟨Nat.le_of_ble_eq_true rfl, Nat.le_of_ble_eq_true rfl⟩ rfl) (fun u12 r_ H locs hw hP hD hS hk => ?_)
      obtain ⟨rfl, eu12, bu12⟩ := hw
      replace hP : va_P D vwCl [(o, eRM r (.ref wa) I L)] H := hP.sub [0] rfl
      replace hD : va_D A [(o, eRM r (.ref wa) I L)] := hD.sub [0] (by decide) rfl
      refine lv_if_eq (tgt := 48) hx hb dX1_settingsWhy_41 (by decide) (fun c13 => ?_) (fun c13 => ?_)
      · refine lv_iconst (v := 2) hx hb dX1_settingsWhy_48 ci_2 ?_
        exact Jn1 2 _ _ _ (by subst eu12; exact Eq.symm (Eq.trans (if_neg c11) (Eq.trans (if_pos c13) (rfl)))) hP hD hS (lv_sub hl [0, 1, 2, 3] rfl)
      · refine lv_iconst (v := 0) hx hb dX1_settingsWhy_44 ci_0 ?_
        refine lv_goto (tgt := 49) hx hb dX1_settingsWhy_45 (by decide) ?_
        exact Jn1 0 _ _ _ (by subst eu12; exact Eq.symm (Eq.trans (if_neg c11) (Eq.trans (if_neg c13) (rfl)))) hP hD hS (lv_sub hl [0, 1, 2, 3] rfl)
  · refine lv_iconst (v := 1) hx hb dX1_settingsWhy_24 ci_1 ?_
    exact xret_i hx hb hr hlocks (Nat.le_of_ble_eq_true rfl) (Nat.le_of_ble_eq_true rfl) hS.2.2 dX1_settingsWhy_25 (fun t ht => ⟨⟨1, 1, rfl, ⟨rfl, (by subst eu1; exact Eq.symm (Eq.trans (if_pos c2) (rfl)))⟩, by rw [ht]; exact hP, hD⟩, hS.F ht⟩)

def f_X1_settingsWhyN  : Int32 :=
  1
abbrev q_X1_settingsWhyN (D : va_G) (k : KK) (o : Nat) (r : Nat → Nat) (I : Nat → Int32) (L : Nat → Int64) (ra_ : Int32) (wt : Int32) (oi : Int32) (A : Nat → Prop) : Array Value → State → Outcome → State → Prop := va_Qi (fun (r_ : Int32) (u : Int32) => r_ = u ∧ u = f_X1_settingsWhyN) (bx D (fun u => [(o, eRM r .null I L)]) A) A
abbrev rm_X1_settingsWhyN : Room := { frames := 2, cells := 0, slots := 0, locals := 80 }
set_option maxHeartbeats 8000000 in
theorem m_X1_settingsWhyN (l : Launch) (D : va_G) (k : KK) (sz : Nat) (o : Nat) (r : Nat → Nat) (I : Nat → Int32) (L : Nat → Int64) (ra_ : Int32) (wt : Int32) (oi : Int32)  : Met l yX1_settingsWhy (ws_ yX1_settingsWhy cX1_settingsWhy 4 (some .int)) rm_X1_settingsWhyN (pcx D k [.ref o, .int ra_, .int wt, .int oi] sz [(o, eRM r .null I L)] (fun _ => True)) (q_X1_settingsWhyN D k o r I L ra_ wt oi (va_A [(o, eRM r .null I L)] sz)) 0 0 (va_A [(o, eRM r .null I L)] sz) := by
  refine Met.start (Qc := q_X1_settingsWhyN D k o r I L ra_ wt oi) (by decide) (Nat.le_of_ble_eq_true rfl) ?_
  intro p e s m below meth c A hx hb hr hlocks hml hown hin hts hg hP hD hA hAn hS hY hsz ls hl
  have hown : s.vm.findClass RX1 = some m.cls := hown
  have hl : lv_has ls 4 [(0, .ref o), (1, .int ra_), (2, .int wt), (3, .int oi)] := hl
  refine lv_aload_n hx hb dX1_settingsWhy_0 rfl (lv_at hl 0 rfl) ?_
  refine va_get (D := D) (ci := 0) (v := .null) (C := RX1) (T := TX1) (N := 29) hx hb hts in_X1 hown hg.1 hP 0 rfl rfl 3 (Nat.le_of_ble_eq_true rfl) (hts _ q367) (fun _ h9 => h9) rfl dX1_settingsWhy_1 ?_
  refine lv_ifnullN (tgt := 24) hx hb dX1_settingsWhy_4 (by decide) ?_
  refine lv_iconst (v := 1) hx hb dX1_settingsWhy_24 ci_1 ?_
  exact xret_i hx hb hr hlocks (Nat.le_of_ble_eq_true rfl) (Nat.le_of_ble_eq_true rfl) hS.2.2 dX1_settingsWhy_25 (fun t ht => ⟨⟨1, 1, rfl, ⟨rfl, rfl⟩, by rw [ht]; exact hP, hD⟩, hS.F ht⟩)

def f_X1_set (J0 : Nat → Int32) (ra_ : Int32) (wt : Int32) (oi : Int32) (WI : Nat → Int32) : Int32 × Int32 × Int32 × Int32 × Int32 × Int32 :=
  let u1 := f_X1_settingsWhy ra_ wt oi WI
  let u2 := f_X1_yes u1
  if u2.1 = 0 then
    (0, u2.2.1, u2.2.2, (J0 0), (J0 1), (J0 2))
  else
    let u4 := f_X1_put ra_ wt oi
    (1, u2.2.1, u2.2.2, u4.1, u4.2.1, u4.2.2)
abbrev q_X1_set (D : va_G) (k : KK) (o : Nat) (r : Nat → Nat) (I : Nat → Int32) (L : Nat → Int64) (J0 : Nat → Int32) (ra_ : Int32) (wt : Int32) (oi : Int32) (wa : Nat) (wd : WAd) (WI : Nat → Int32) (pr : Nat → Int32) (SI : Nat → Nat → Int32) (OI : Nat → Nat → Int32) (tn : Nat → Nat → Int32) (nS : Nat) (nO : Nat) (A : Nat → Prop) : Array Value → State → Outcome → State → Prop := va_Qi (fun (r_ : Int32) (u : Int32 × Int32 × Int32 × Int32 × Int32 × Int32) => r_ = u.1 ∧ u = f_X1_set J0 ra_ wt oi WI ∧ (r_ = 0 ∨ r_ = 1)) (bx D (fun u => [(o, eRM r (.ref wa) (upd (upd I 4 u.2.1) 6 u.2.2.1) L), ((r 9), eSE (upd (upd (upd J0 0 u.2.2.2.1) 1 u.2.2.2.2.1) 2 u.2.2.2.2.2))]) A) A
abbrev rm_X1_set : Room := { frames := 3, cells := 0, slots := 0, locals := 120 }
theorem xo_X1_set : xok yX1_set 3 := by unfold xok; decide +kernel
set_option maxHeartbeats 8000000 in
theorem m_X1_set (l : Launch) (D : va_G) (k : KK) (sz : Nat) (o : Nat) (r : Nat → Nat) (I : Nat → Int32) (L : Nat → Int64) (J0 : Nat → Int32) (ra_ : Int32) (wt : Int32) (oi : Int32) (wa : Nat) (wd : WAd) (WI : Nat → Int32) (pr : Nat → Int32) (SI : Nat → Nat → Int32) (OI : Nat → Nat → Int32) (tn : Nat → Nat → Int32) (nS : Nat) (nO : Nat) (hnS : WI 3 = nI nS) (hnO : WI 4 = nI nO) (hS2 : 2 ≤ nS) (hS5 : nS ≤ 5) (hO4 : nO ≤ 4) : Met l yX1_set (ws_ yX1_set cX1_set 4 (some .boolean)) rm_X1_set (pcx D k [.ref o, .int ra_, .int wt, .int oi] sz [(o, eRM r (.ref wa) I L), ((r 9), eSE J0)] (wkY D k wa wd WI pr SI OI tn nS nO (va_A [(o, eRM r (.ref wa) I L), ((r 9), eSE J0)] sz))) (q_X1_set D k o r I L J0 ra_ wt oi wa wd WI pr SI OI tn nS nO (va_A [(o, eRM r (.ref wa) I L), ((r 9), eSE J0)] sz)) 0 0 (va_A [(o, eRM r (.ref wa) I L), ((r 9), eSE J0)] sz) := by
  refine Met.start (Qc := q_X1_set D k o r I L J0 ra_ wt oi wa wd WI pr SI OI tn nS nO) (by decide) (Nat.le_of_ble_eq_true rfl) ?_
  intro p e s m below meth c A hx hb hr hlocks hml hown hin hts hg hP hD hA hAn hS hY hsz ls hl
  have hown : s.vm.findClass RX1 = some m.cls := hown
  have hl : lv_has ls 4 [(0, .ref o), (1, .int ra_), (2, .int wt), (3, .int oi)] := hl
  have hW := wkY.mono hY hAn
  refine lv_aload_n hx hb dX1_set_0 rfl (lv_at hl 0 rfl) ?_
  refine lv_aload_n hx hb dX1_set_1 rfl (lv_at hl 0 rfl) ?_
  refine lv_iload_n hx hb dX1_set_2 rfl (lv_at hl 1 rfl) ?_
  refine lv_iload_n hx hb dX1_set_3 rfl (lv_at hl 2 rfl) ?_
  refine lv_iload_n hx hb dX1_set_4 rfl (lv_at hl 3 rfl) ?_
  refine xc_i (wc := [(o, eRM r (.ref wa) I L)]) (wr := [((r 9), eSE J0)]) hP hD hS hA [0] [1] rfl rfl rfl (by decide) (xrV ⟨hx, hb, hml, hown, hts⟩ hg (m_X1_settingsWhy l D k _ o r I L ra_ wt oi wa wd WI pr SI OI tn nS nO hnS hnO hS2 hS5 hO4) hP hD [0] rfl rfl (wkcall hW hS (va_free (wc := [(o, eRM r (.ref wa) I L)]) hD hS hA [0] rfl)) (ci := 0) (q0 := 0) rfl rfl rfl q874 q876 qs20 q83 q877 xo_X1_settingsWhy ⟨rfl, rfl⟩ ⟨Nat.le_of_ble_eq_true rfl, Nat.le_of_ble_eq_true rfl⟩ hl.1 (Nat.le_of_ble_eq_true rfl) dX1_set_5 ⟨Nat.le_of_ble_eq_true rfl, Nat.le_of_ble_eq_true rfl⟩ rfl) (fun u1 r_ H locs hw hP hD hS hk => ?_)
  obtain ⟨rfl, eu1⟩ := hw
  replace hP : va_P D vwCl [(o, eRM r (.ref wa) I L), ((r 9), eSE J0)] H := hP.sub [1, 0] rfl
  replace hD : va_D A [(o, eRM r (.ref wa) I L), ((r 9), eSE J0)] := hD.sub [1, 0] (by decide) rfl
  refine xc_i (wc := [(o, eRM r (.ref wa) I L)]) (wr := [((r 9), eSE J0)]) hP hD hS hA [0] [1] rfl rfl rfl (by decide) (xrV ⟨hx, hb, hml, hown, hts⟩ hg (m_X1_yes l D k _ o r (.ref wa) I L u1) hP hD [0] rfl rfl trivial (ci := 0) (q0 := 0) rfl rfl rfl q878 q880 qs21 q83 q881 xo_X1_yes ⟨rfl, rfl⟩ ⟨Nat.le_of_ble_eq_true rfl, Nat.le_of_ble_eq_true rfl⟩ hl.1 (Nat.le_of_ble_eq_true rfl) dX1_set_8 ⟨Nat.le_of_ble_eq_true rfl, Nat.le_of_ble_eq_true rfl⟩ rfl) (fun r_ u2 H locs hw hP hD hS hk => ?_)
  obtain ⟨rfl, eu2, bu2⟩ := hw
  replace hP : va_P D vwCl [(o, eRM r (.ref wa) (upd (upd I 4 u2.2.1) 6 u2.2.2) L), ((r 9), eSE J0)] H := hP.sub [1, 0] rfl
  replace hD : va_D A [(o, eRM r (.ref wa) (upd (upd I 4 u2.2.1) 6 u2.2.2) L), ((r 9), eSE J0)] := hD.sub [1, 0] (by decide) rfl
  refine lv_if_ne (tgt := 16) hx hb dX1_set_11 (by decide) (fun c3 => ?_) (fun c3 => ?_)
  · refine lv_aload_n hx hb dX1_set_16 rfl (lv_at hl 0 rfl) ?_
    refine va_get (D := D) (ci := 0) (v := .ref (r 9)) (C := RX1) (T := TX1) (N := 29) hx hb hts in_X1 hown hg.1 hP 0 rfl rfl 9 (Nat.le_of_ble_eq_true rfl) (hts _ q373) (fun _ h9 => h9) rfl dX1_set_17 ?_
    refine lv_iload_n hx hb dX1_set_20 rfl (lv_at hl 1 rfl) ?_
    refine lv_iload_n hx hb dX1_set_21 rfl (lv_at hl 2 rfl) ?_
    refine lv_iload_n hx hb dX1_set_22 rfl (lv_at hl 3 rfl) ?_
    refine xc_v (wc := [((r 9), eSE J0)]) (wr := [(o, eRM r (.ref wa) (upd (upd I 4 u2.2.1) 6 u2.2.2) L)]) hP hD hS hA [1] [0] rfl rfl rfl (by decide) (xrS ⟨hx, hb, hml, hown, hts⟩ hg (m_X1_put l D k _ (r 9) J0 ra_ wt oi) hP hD [1] rfl rfl trivial q882 q883 q83 q884 xo_X1_put ⟨rfl, rfl⟩ ⟨Nat.le_of_ble_eq_true rfl, Nat.le_of_ble_eq_true rfl⟩ hl.1 (Nat.le_of_ble_eq_true rfl) dX1_set_23 ⟨Nat.le_of_ble_eq_true rfl, Nat.le_of_ble_eq_true rfl⟩ rfl) (fun u4 H locs hw hP hD hS hk => ?_)
    have eu4 := hw
    replace hP : va_P D vwCl [(o, eRM r (.ref wa) (upd (upd I 4 u2.2.1) 6 u2.2.2) L), ((r 9), eSE (upd (upd (upd J0 0 u4.1) 1 u4.2.1) 2 u4.2.2))] H := hP.sub [0, 1] rfl
    replace hD : va_D A [(o, eRM r (.ref wa) (upd (upd I 4 u2.2.1) 6 u2.2.2) L), ((r 9), eSE (upd (upd (upd J0 0 u4.1) 1 u4.2.1) 2 u4.2.2))] := hD.sub [0, 1] (by decide) rfl
    refine lv_iconst (v := 1) hx hb dX1_set_26 ci_1 ?_
    exact xret_z hx hb hr hlocks (Nat.le_of_ble_eq_true rfl) (Nat.le_of_ble_eq_true rfl) hS.2.2 dX1_set_27 (Or.inr rfl) (fun t ht => ⟨⟨1, (1, u2.2.1, u2.2.2, u4.1, u4.2.1, u4.2.2), rfl, ⟨rfl, (by subst eu4; subst eu2; subst eu1; exact Eq.symm (Eq.trans (if_neg c3) (rfl))), (Or.inr rfl)⟩, by rw [ht]; exact hP, hD⟩, hS.F ht⟩)
  · refine lv_iconst (v := 0) hx hb dX1_set_14 ci_0 ?_
    exact xret_z hx hb hr hlocks (Nat.le_of_ble_eq_true rfl) (Nat.le_of_ble_eq_true rfl) hS.2.2 dX1_set_15 (Or.inl rfl) (fun t ht => ⟨⟨0, (0, u2.2.1, u2.2.2, (J0 0), (J0 1), (J0 2)), rfl, ⟨rfl, (by subst eu2; subst eu1; exact Eq.symm (Eq.trans (if_pos c3) (rfl))), (Or.inl rfl)⟩, by rw [ht]; exact hP, hD⟩, hS.F ht⟩)

def f_X1_setN  : Int32 × Int32 × Int32 :=
  let u1 := f_X1_settingsWhyN
  let u2 := f_X1_yes u1
  (0, u2.2.1, u2.2.2)
abbrev q_X1_setN (D : va_G) (k : KK) (o : Nat) (r : Nat → Nat) (I : Nat → Int32) (L : Nat → Int64) (J0 : Nat → Int32) (ra_ : Int32) (wt : Int32) (oi : Int32) (A : Nat → Prop) : Array Value → State → Outcome → State → Prop := va_Qi (fun (r_ : Int32) (u : Int32 × Int32 × Int32) => r_ = u.1 ∧ u = f_X1_setN ∧ (r_ = 0 ∨ r_ = 1)) (bx D (fun u => [(o, eRM r .null (upd (upd I 4 u.2.1) 6 u.2.2) L), ((r 9), eSE J0)]) A) A
abbrev rm_X1_setN : Room := { frames := 3, cells := 0, slots := 0, locals := 120 }
set_option maxHeartbeats 8000000 in
theorem m_X1_setN (l : Launch) (D : va_G) (k : KK) (sz : Nat) (o : Nat) (r : Nat → Nat) (I : Nat → Int32) (L : Nat → Int64) (J0 : Nat → Int32) (ra_ : Int32) (wt : Int32) (oi : Int32)  : Met l yX1_set (ws_ yX1_set cX1_set 4 (some .boolean)) rm_X1_setN (pcx D k [.ref o, .int ra_, .int wt, .int oi] sz [(o, eRM r .null I L), ((r 9), eSE J0)] (fun _ => True)) (q_X1_setN D k o r I L J0 ra_ wt oi (va_A [(o, eRM r .null I L), ((r 9), eSE J0)] sz)) 0 0 (va_A [(o, eRM r .null I L), ((r 9), eSE J0)] sz) := by
  refine Met.start (Qc := q_X1_setN D k o r I L J0 ra_ wt oi) (by decide) (Nat.le_of_ble_eq_true rfl) ?_
  intro p e s m below meth c A hx hb hr hlocks hml hown hin hts hg hP hD hA hAn hS hY hsz ls hl
  have hown : s.vm.findClass RX1 = some m.cls := hown
  have hl : lv_has ls 4 [(0, .ref o), (1, .int ra_), (2, .int wt), (3, .int oi)] := hl
  refine lv_aload_n hx hb dX1_set_0 rfl (lv_at hl 0 rfl) ?_
  refine lv_aload_n hx hb dX1_set_1 rfl (lv_at hl 0 rfl) ?_
  refine lv_iload_n hx hb dX1_set_2 rfl (lv_at hl 1 rfl) ?_
  refine lv_iload_n hx hb dX1_set_3 rfl (lv_at hl 2 rfl) ?_
  refine lv_iload_n hx hb dX1_set_4 rfl (lv_at hl 3 rfl) ?_
  refine xc_i (wc := [(o, eRM r .null I L)]) (wr := [((r 9), eSE J0)]) hP hD hS hA [0] [1] rfl rfl rfl (by decide) (xrV ⟨hx, hb, hml, hown, hts⟩ hg (m_X1_settingsWhyN l D k _ o r I L ra_ wt oi) hP hD [0] rfl rfl trivial (ci := 0) (q0 := 0) rfl rfl rfl q874 q876 qs20 q83 q877 xo_X1_settingsWhy ⟨rfl, rfl⟩ ⟨Nat.le_of_ble_eq_true rfl, Nat.le_of_ble_eq_true rfl⟩ hl.1 (Nat.le_of_ble_eq_true rfl) dX1_set_5 ⟨Nat.le_of_ble_eq_true rfl, Nat.le_of_ble_eq_true rfl⟩ rfl) (fun u1 r_ H locs hw hP hD hS hk => ?_)
  obtain ⟨rfl, eu1⟩ := hw
  replace hP : va_P D vwCl [(o, eRM r .null I L), ((r 9), eSE J0)] H := hP.sub [1, 0] rfl
  replace hD : va_D A [(o, eRM r .null I L), ((r 9), eSE J0)] := hD.sub [1, 0] (by decide) rfl
  refine xc_i (wc := [(o, eRM r .null I L)]) (wr := [((r 9), eSE J0)]) hP hD hS hA [0] [1] rfl rfl rfl (by decide) (xrV ⟨hx, hb, hml, hown, hts⟩ hg (m_X1_yes l D k _ o r .null I L u1) hP hD [0] rfl rfl trivial (ci := 0) (q0 := 0) rfl rfl rfl q878 q880 qs21 q83 q881 xo_X1_yes ⟨rfl, rfl⟩ ⟨Nat.le_of_ble_eq_true rfl, Nat.le_of_ble_eq_true rfl⟩ hl.1 (Nat.le_of_ble_eq_true rfl) dX1_set_8 ⟨Nat.le_of_ble_eq_true rfl, Nat.le_of_ble_eq_true rfl⟩ rfl) (fun r_ u2 H locs hw hP hD hS hk => ?_)
  obtain ⟨rfl, eu2, bu2⟩ := hw
  replace hP : va_P D vwCl [(o, eRM r .null (upd (upd I 4 u2.2.1) 6 u2.2.2) L), ((r 9), eSE J0)] H := hP.sub [1, 0] rfl
  replace hD : va_D A [(o, eRM r .null (upd (upd I 4 u2.2.1) 6 u2.2.2) L), ((r 9), eSE J0)] := hD.sub [1, 0] (by decide) rfl
  refine lv_if_ne (tgt := 16) hx hb dX1_set_11 (by decide) (fun c => absurd (by rw [eu2, eu1]; decide) c) (fun _ => ?_)
  refine lv_iconst (v := 0) hx hb dX1_set_14 ci_0 ?_
  exact xret_z hx hb hr hlocks (Nat.le_of_ble_eq_true rfl) (Nat.le_of_ble_eq_true rfl) hS.2.2 dX1_set_15 (Or.inl rfl) (fun t ht => ⟨⟨0, (0, u2.2.1, u2.2.2), rfl, ⟨rfl, (by subst eu2; subst eu1; exact rfl), (Or.inl rfl)⟩, by rw [ht]; exact hP, hD⟩, hS.F ht⟩)

def f_X1_mend_j2 (TI : Nat → Int32) (li : Int32) : (Int32) :=
  if li = 0 then
    (TI 8)
  else
    0
def f_X1_mend_j1 (u1 : Int32) : (Int32) :=
  if u1 = 0 then
    2
  else
    0
def f_X1_mend (TI : Nat → Int32) (te : Int32) (li : Int32) : Int32 × Int32 × Int32 × Int32 × Int32 :=
  let u1 := f_X1_in te 0 3
  let v4 := f_X1_mend_j1 u1
  let u5 := f_X1_yes v4
  if u5.1 = 0 then
    (0, u5.2.1, u5.2.2, (TI 8), (TI 9))
  else
    let v9 := f_X1_mend_j2 TI li
    (1, u5.2.1, u5.2.2, v9, te)
abbrev q_X1_mend (D : va_G) (k : KK) (o : Nat) (r : Nat → Nat) (I : Nat → Int32) (L : Nat → Int64) (sr : Nat → Nat) (TI : Nat → Int32) (TL : Nat → Int64) (te : Int32) (li : Int32) (wa : Nat) (wd : WAd) (WI : Nat → Int32) (pr : Nat → Int32) (SI : Nat → Nat → Int32) (OI : Nat → Nat → Int32) (tn : Nat → Nat → Int32) (nS : Nat) (nO : Nat) (A : Nat → Prop) : Array Value → State → Outcome → State → Prop := va_Qi (fun (r_ : Int32) (u : Int32 × Int32 × Int32 × Int32 × Int32) => r_ = u.1 ∧ u = f_X1_mend TI te li ∧ (r_ = 0 ∨ r_ = 1)) (bx D (fun u => [(o, eRM r (.ref wa) (upd (upd I 4 u.2.1) 6 u.2.2.1) L), ((r 7), eST sr (upd (upd TI 8 u.2.2.2.1) 9 u.2.2.2.2) TL)]) A) A
abbrev rm_X1_mend : Room := { frames := 3, cells := 0, slots := 0, locals := 120 }
theorem xo_X1_mend : xok yX1_mend 2 := by unfold xok; decide +kernel
set_option maxHeartbeats 8000000 in
theorem m_X1_mend (l : Launch) (D : va_G) (k : KK) (sz : Nat) (o : Nat) (r : Nat → Nat) (I : Nat → Int32) (L : Nat → Int64) (sr : Nat → Nat) (TI : Nat → Int32) (TL : Nat → Int64) (te : Int32) (li : Int32) (wa : Nat) (wd : WAd) (WI : Nat → Int32) (pr : Nat → Int32) (SI : Nat → Nat → Int32) (OI : Nat → Nat → Int32) (tn : Nat → Nat → Int32) (nS : Nat) (nO : Nat) (hnS : WI 3 = nI nS) (hnO : WI 4 = nI nO) (hS2 : 2 ≤ nS) (hS5 : nS ≤ 5) (hO4 : nO ≤ 4) : Met l yX1_mend (ws_ yX1_mend cX1_mend 3 (some .boolean)) rm_X1_mend (pcx D k [.ref o, .int te, .int li] sz [(o, eRM r (.ref wa) I L), ((r 7), eST sr TI TL)] (wkY D k wa wd WI pr SI OI tn nS nO (va_A [(o, eRM r (.ref wa) I L), ((r 7), eST sr TI TL)] sz))) (q_X1_mend D k o r I L sr TI TL te li wa wd WI pr SI OI tn nS nO (va_A [(o, eRM r (.ref wa) I L), ((r 7), eST sr TI TL)] sz)) 0 0 (va_A [(o, eRM r (.ref wa) I L), ((r 7), eST sr TI TL)] sz) := by
  refine Met.start (Qc := q_X1_mend D k o r I L sr TI TL te li wa wd WI pr SI OI tn nS nO) (by decide) (Nat.le_of_ble_eq_true rfl) ?_
  intro p e s m below meth c A hx hb hr hlocks hml hown hin hts hg hP hD hA hAn hS hY hsz ls hl
  have hown : s.vm.findClass RX1 = some m.cls := hown
  have hl : lv_has ls 3 [(0, .ref o), (1, .int te), (2, .int li)] := hl
  have hW := wkY.mono hY hAn
  refine lv_aload_n hx hb dX1_mend_0 rfl (lv_at hl 0 rfl) ?_
  refine lv_aload_n hx hb dX1_mend_1 rfl (lv_at hl 0 rfl) ?_
  refine va_get (D := D) (ci := 0) (v := .ref wa) (C := RX1) (T := TX1) (N := 29) hx hb hts in_X1 hown hg.1 hP 0 rfl rfl 3 (Nat.le_of_ble_eq_true rfl) (hts _ q367) (fun _ h9 => h9) rfl dX1_mend_2 ?_
  refine lv_ifnonnull (tgt := 12) hx hb dX1_mend_5 (by decide) ?_
  refine lv_iload_n hx hb dX1_mend_12 rfl (lv_at hl 1 rfl) ?_
  refine lv_iconst (v := 0) hx hb dX1_mend_13 ci_0 ?_
  refine lv_iconst (v := 3) hx hb dX1_mend_14 ci_3 ?_
  refine xc_i (wc := []) (wr := [(o, eRM r (.ref wa) I L), ((r 7), eST sr TI TL)]) hP hD hS hA [] [0, 1] rfl rfl rfl (by decide) (xrS ⟨hx, hb, hml, hown, hts⟩ hg (m_X1_in l D k _ te 0 3) hP hD [] rfl rfl trivial q469 q470 q83 q471 xo_X1_in ⟨rfl, rfl⟩ ⟨Nat.le_of_ble_eq_true rfl, Nat.le_of_ble_eq_true rfl⟩ hl.1 (Nat.le_of_ble_eq_true rfl) dX1_mend_15 ⟨Nat.le_of_ble_eq_true rfl, Nat.le_of_ble_eq_true rfl⟩ rfl) (fun u1 r_ H locs hw hP hD hS hk => ?_)
  obtain ⟨rfl, eu1, bu1⟩ := hw
  replace hP : va_P D vwCl [(o, eRM r (.ref wa) I L), ((r 7), eST sr TI TL)] H := hP.sub [0, 1] rfl
  replace hD : va_D A [(o, eRM r (.ref wa) I L), ((r 7), eST sr TI TL)] := hD.sub [0, 1] (by decide) rfl
  have Jn1 : ∀ (v4 : (Int32)) (H : Heap) (locs : List Loc) (ls : Array Slot), v4 = f_X1_mend_j1 u1 → va_P D vwCl [(o, eRM r (.ref wa) I L), ((r 7), eST sr TI TL)] H → va_D A [(o, eRM r (.ref wa) I L), ((r 7), eST sr TI TL)] → va_S A s.heap H locs → lv_has ls 3 [(0, .ref o), (1, .int te), (2, .int li)] → W p l e rm_X1_mend s m ([.ref o, .int te, .int li] : List Value).toArray below meth c H locs 0 0 (MQ below (q_X1_mend D k o r I L sr TI TL te li wa wd WI pr SI OI tn nS nO A) ([.ref o, .int te, .int li] : List Value).toArray s 0 0 A) (F0 m 26 ls [.int v4, .ref o]) := by
    intro v4 H locs ls ev4 hP hD hS hl
    refine xc_i (wc := [(o, eRM r (.ref wa) I L)]) (wr := [((r 7), eST sr TI TL)]) hP hD hS hA [0] [1] rfl rfl rfl (by decide) (xrV ⟨hx, hb, hml, hown, hts⟩ hg (m_X1_yes l D k _ o r (.ref wa) I L v4) hP hD [0] rfl rfl trivial (ci := 0) (q0 := 0) rfl rfl rfl q878 q880 qs21 q83 q881 xo_X1_yes ⟨rfl, rfl⟩ ⟨Nat.le_of_ble_eq_true rfl, Nat.le_of_ble_eq_true rfl⟩ hl.1 (Nat.le_of_ble_eq_true rfl) dX1_mend_26 ⟨Nat.le_of_ble_eq_true rfl, Nat.le_of_ble_eq_true rfl⟩ rfl) (fun r_ u5 H locs hw hP hD hS hk => ?_)
    obtain ⟨rfl, eu5, bu5⟩ := hw
    replace hP : va_P D vwCl [(o, eRM r (.ref wa) (upd (upd I 4 u5.2.1) 6 u5.2.2) L), ((r 7), eST sr TI TL)] H := hP.sub [1, 0] rfl
    replace hD : va_D A [(o, eRM r (.ref wa) (upd (upd I 4 u5.2.1) 6 u5.2.2) L), ((r 7), eST sr TI TL)] := hD.sub [1, 0] (by decide) rfl
    refine lv_if_ne (tgt := 34) hx hb dX1_mend_29 (by decide) (fun c6 => ?_) (fun c6 => ?_)
    · refine lv_aload_n hx hb dX1_mend_34 rfl (lv_at hl 0 rfl) ?_
      refine va_get (D := D) (ci := 0) (v := .ref (r 7)) (C := RX1) (T := TX1) (N := 29) hx hb hts in_X1 hown hg.1 hP 0 rfl rfl 7 (Nat.le_of_ble_eq_true rfl) (hts _ q371) (fun _ h9 => h9) rfl dX1_mend_35 ?_
      refine lv_iload_n hx hb dX1_mend_38 rfl (lv_at hl 1 rfl) ?_
      refine va_put (D := D) (ci := 3) (v := .int te) (C := RX4) (T := TX4) (N := 18) hx hb hts in_X4 tyX4 tyX4_ok nmX4 hown hg.1 hP hD hS 1 rfl rfl 9 (Nat.le_of_ble_eq_true rfl) (hts _ q252) (fun _ h9 => h9) rfl ftX4_9 rfl rfl (Nat.le_of_ble_eq_true rfl) dX1_mend_39 (fun H locs hP hD hS => ?_)
      replace hP : va_P D vwCl [(o, eRM r (.ref wa) (upd (upd I 4 u5.2.1) 6 u5.2.2) L), ((r 7), eST sr (upd TI 9 te) TL)] H := hP
      replace hD : va_D A [(o, eRM r (.ref wa) (upd (upd I 4 u5.2.1) 6 u5.2.2) L), ((r 7), eST sr (upd TI 9 te) TL)] := hD
      refine lv_aload_n hx hb dX1_mend_42 rfl (lv_at hl 0 rfl) ?_
      refine va_get (D := D) (ci := 0) (v := .ref (r 7)) (C := RX1) (T := TX1) (N := 29) hx hb hts in_X1 hown hg.1 hP 0 rfl rfl 7 (Nat.le_of_ble_eq_true rfl) (hts _ q371) (fun _ h9 => h9) rfl dX1_mend_43 ?_
      refine lv_iload_n hx hb dX1_mend_46 rfl (lv_at hl 2 rfl) ?_
      have Jn2 : ∀ (v9 : (Int32)) (H : Heap) (locs : List Loc) (ls : Array Slot), v9 = f_X1_mend_j2 TI li → va_P D vwCl [(o, eRM r (.ref wa) (upd (upd I 4 u5.2.1) 6 u5.2.2) L), ((r 7), eST sr (upd TI 9 te) TL)] H → va_D A [(o, eRM r (.ref wa) (upd (upd I 4 u5.2.1) 6 u5.2.2) L), ((r 7), eST sr (upd TI 9 te) TL)] → va_S A s.heap H locs → lv_has ls 3 [(0, .ref o), (1, .int te), (2, .int li)] → W p l e rm_X1_mend s m ([.ref o, .int te, .int li] : List Value).toArray below meth c H locs 0 0 (MQ below (q_X1_mend D k o r I L sr TI TL te li wa wd WI pr SI OI tn nS nO A) ([.ref o, .int te, .int li] : List Value).toArray s 0 0 A) (F0 m 61 ls [.int v9, .ref (r 7)]) := by
        intro v9 H locs ls ev9 hP hD hS hl
        refine va_put (D := D) (ci := 3) (v := .int v9) (C := RX4) (T := TX4) (N := 18) hx hb hts in_X4 tyX4 tyX4_ok nmX4 hown hg.1 hP hD hS 1 rfl rfl 8 (Nat.le_of_ble_eq_true rfl) (hts _ q250) (fun _ h9 => h9) rfl ftX4_8 rfl rfl (Nat.le_of_ble_eq_true rfl) dX1_mend_61 (fun H locs hP hD hS => ?_)
        replace hP : va_P D vwCl [(o, eRM r (.ref wa) (upd (upd I 4 u5.2.1) 6 u5.2.2) L), ((r 7), eST sr (upd (upd TI 9 te) 8 v9) TL)] H := hP
        replace hD : va_D A [(o, eRM r (.ref wa) (upd (upd I 4 u5.2.1) 6 u5.2.2) L), ((r 7), eST sr (upd (upd TI 9 te) 8 v9) TL)] := hD
        refine lv_iconst (v := 1) hx hb dX1_mend_64 ci_1 ?_
        exact xret_z hx hb hr hlocks (Nat.le_of_ble_eq_true rfl) (Nat.le_of_ble_eq_true rfl) hS.2.2 dX1_mend_65 (Or.inr rfl) (fun t ht => ⟨⟨1, (1, u5.2.1, u5.2.2, v9, te), rfl, ⟨rfl, (by subst ev9; subst eu5; subst ev4; subst eu1; exact Eq.symm (Eq.trans (if_neg c6) (rfl))), (Or.inr rfl)⟩, by rw [ht]; exact hP, hD⟩, hS.F ht⟩)
      refine lv_if_eq (tgt := 54) hx hb dX1_mend_47 (by decide) (fun c10 => ?_) (fun c10 => ?_)
      · refine lv_aload_n hx hb dX1_mend_54 rfl (lv_at hl 0 rfl) ?_
        refine va_get (D := D) (ci := 0) (v := .ref (r 7)) (C := RX1) (T := TX1) (N := 29) hx hb hts in_X1 hown hg.1 hP 0 rfl rfl 7 (Nat.le_of_ble_eq_true rfl) (hts _ q371) (fun _ h9 => h9) rfl dX1_mend_55 ?_
        refine va_get (D := D) (ci := 3) (v := .int (TI 8)) (C := RX4) (T := TX4) (N := 18) hx hb hts in_X4 hown hg.1 hP 1 rfl rfl 8 (Nat.le_of_ble_eq_true rfl) (hts _ q250) (fun _ h9 => h9) rfl dX1_mend_58 ?_
        exact Jn2 (TI 8) _ _ _ (by exact Eq.symm (Eq.trans (if_pos c10) (rfl))) hP hD hS (lv_sub hl [0, 1, 2] rfl)
      · refine lv_iconst (v := 0) hx hb dX1_mend_50 ci_0 ?_
        refine lv_goto (tgt := 61) hx hb dX1_mend_51 (by decide) ?_
        exact Jn2 0 _ _ _ (by exact Eq.symm (Eq.trans (if_neg c10) (rfl))) hP hD hS (lv_sub hl [0, 1, 2] rfl)
    · refine lv_iconst (v := 0) hx hb dX1_mend_32 ci_0 ?_
      exact xret_z hx hb hr hlocks (Nat.le_of_ble_eq_true rfl) (Nat.le_of_ble_eq_true rfl) hS.2.2 dX1_mend_33 (Or.inl rfl) (fun t ht => ⟨⟨0, (0, u5.2.1, u5.2.2, (TI 8), (TI 9)), rfl, ⟨rfl, (by subst eu5; subst ev4; subst eu1; exact Eq.symm (Eq.trans (if_pos c6) (rfl))), (Or.inl rfl)⟩, by rw [ht]; exact hP, hD⟩, hS.F ht⟩)
  refine lv_if_eq (tgt := 25) hx hb dX1_mend_18 (by decide) (fun c11 => ?_) (fun c11 => ?_)
  · refine lv_iconst (v := 2) hx hb dX1_mend_25 ci_2 ?_
    exact Jn1 2 _ _ _ (by exact Eq.symm (Eq.trans (if_pos c11) (rfl))) hP hD hS (lv_sub hl [0, 1, 2] rfl)
  · refine lv_iconst (v := 0) hx hb dX1_mend_21 ci_0 ?_
    refine lv_goto (tgt := 26) hx hb dX1_mend_22 (by decide) ?_
    exact Jn1 0 _ _ _ (by exact Eq.symm (Eq.trans (if_neg c11) (rfl))) hP hD hS (lv_sub hl [0, 1, 2] rfl)

def f_X1_mendN  : Int32 × Int32 × Int32 :=
  let u1 := f_X1_yes 1
  (0, u1.2.1, u1.2.2)
abbrev q_X1_mendN (D : va_G) (k : KK) (o : Nat) (r : Nat → Nat) (I : Nat → Int32) (L : Nat → Int64) (sr : Nat → Nat) (TI : Nat → Int32) (TL : Nat → Int64) (te : Int32) (li : Int32) (A : Nat → Prop) : Array Value → State → Outcome → State → Prop := va_Qi (fun (r_ : Int32) (u : Int32 × Int32 × Int32) => r_ = u.1 ∧ u = f_X1_mendN ∧ (r_ = 0 ∨ r_ = 1)) (bx D (fun u => [(o, eRM r .null (upd (upd I 4 u.2.1) 6 u.2.2) L), ((r 7), eST sr TI TL)]) A) A
abbrev rm_X1_mendN : Room := { frames := 3, cells := 0, slots := 0, locals := 120 }
set_option maxHeartbeats 8000000 in
theorem m_X1_mendN (l : Launch) (D : va_G) (k : KK) (sz : Nat) (o : Nat) (r : Nat → Nat) (I : Nat → Int32) (L : Nat → Int64) (sr : Nat → Nat) (TI : Nat → Int32) (TL : Nat → Int64) (te : Int32) (li : Int32)  : Met l yX1_mend (ws_ yX1_mend cX1_mend 3 (some .boolean)) rm_X1_mendN (pcx D k [.ref o, .int te, .int li] sz [(o, eRM r .null I L), ((r 7), eST sr TI TL)] (fun _ => True)) (q_X1_mendN D k o r I L sr TI TL te li (va_A [(o, eRM r .null I L), ((r 7), eST sr TI TL)] sz)) 0 0 (va_A [(o, eRM r .null I L), ((r 7), eST sr TI TL)] sz) := by
  refine Met.start (Qc := q_X1_mendN D k o r I L sr TI TL te li) (by decide) (Nat.le_of_ble_eq_true rfl) ?_
  intro p e s m below meth c A hx hb hr hlocks hml hown hin hts hg hP hD hA hAn hS hY hsz ls hl
  have hown : s.vm.findClass RX1 = some m.cls := hown
  have hl : lv_has ls 3 [(0, .ref o), (1, .int te), (2, .int li)] := hl
  refine lv_aload_n hx hb dX1_mend_0 rfl (lv_at hl 0 rfl) ?_
  refine lv_aload_n hx hb dX1_mend_1 rfl (lv_at hl 0 rfl) ?_
  refine va_get (D := D) (ci := 0) (v := .null) (C := RX1) (T := TX1) (N := 29) hx hb hts in_X1 hown hg.1 hP 0 rfl rfl 3 (Nat.le_of_ble_eq_true rfl) (hts _ q367) (fun _ h9 => h9) rfl dX1_mend_2 ?_
  refine lv_ifnonnullN hx hb dX1_mend_5 ?_
  refine lv_iconst (v := 1) hx hb dX1_mend_8 ci_1 ?_
  refine lv_goto (tgt := 26) hx hb dX1_mend_9 (by decide) ?_
  refine xc_i (wc := [(o, eRM r .null I L)]) (wr := [((r 7), eST sr TI TL)]) hP hD hS hA [0] [1] rfl rfl rfl (by decide) (xrV ⟨hx, hb, hml, hown, hts⟩ hg (m_X1_yes l D k _ o r .null I L 1) hP hD [0] rfl rfl trivial (ci := 0) (q0 := 0) rfl rfl rfl q878 q880 qs21 q83 q881 xo_X1_yes ⟨rfl, rfl⟩ ⟨Nat.le_of_ble_eq_true rfl, Nat.le_of_ble_eq_true rfl⟩ hl.1 (Nat.le_of_ble_eq_true rfl) dX1_mend_26 ⟨Nat.le_of_ble_eq_true rfl, Nat.le_of_ble_eq_true rfl⟩ rfl) (fun r_ u1 H locs hw hP hD hS hk => ?_)
  obtain ⟨rfl, eu1, bu1⟩ := hw
  replace hP : va_P D vwCl [(o, eRM r .null (upd (upd I 4 u1.2.1) 6 u1.2.2) L), ((r 7), eST sr TI TL)] H := hP.sub [1, 0] rfl
  replace hD : va_D A [(o, eRM r .null (upd (upd I 4 u1.2.1) 6 u1.2.2) L), ((r 7), eST sr TI TL)] := hD.sub [1, 0] (by decide) rfl
  refine lv_if_ne (tgt := 34) hx hb dX1_mend_29 (by decide) (fun c => absurd (by rw [eu1]; decide) c) (fun _ => ?_)
  refine lv_iconst (v := 0) hx hb dX1_mend_32 ci_0 ?_
  exact xret_z hx hb hr hlocks (Nat.le_of_ble_eq_true rfl) (Nat.le_of_ble_eq_true rfl) hS.2.2 dX1_mend_33 (Or.inl rfl) (fun t ht => ⟨⟨0, (0, u1.2.1, u1.2.2), rfl, ⟨rfl, (by subst eu1; exact rfl), (Or.inl rfl)⟩, by rw [ht]; exact hP, hD⟩, hS.F ht⟩)

def f_X1_tons (h0 : Nat → Int32) (h1 : Nat → Int32) (h2 : Nat → Int32) (h3 : Nat → Int32) (x : Int32) (wh : Int32) (WI : Nat → Int32) : Int32 :=
  let u1 := f_X1_in x 0 ((WI 3) - 1)
  if u1 = 0 then
    (-1)
  else
    if wh = 0 then
      (h0 x.toNatClampNeg)
    else
      if wh = 1 then
        (h1 x.toNatClampNeg)
      else
        if wh = 2 then
          (h2 x.toNatClampNeg)
        else
          if wh = 3 then
            (h3 x.toNatClampNeg)
          else
            (-1)
abbrev q_X1_tons (D : va_G) (k : KK) (o : Nat) (r : Nat → Nat) (I : Nat → Int32) (L : Nat → Int64) (sr : Nat → Nat) (TI : Nat → Int32) (TL : Nat → Int64) (h0 : Nat → Int32) (h1 : Nat → Int32) (h2 : Nat → Int32) (h3 : Nat → Int32) (x : Int32) (wh : Int32) (wa : Nat) (wd : WAd) (WI : Nat → Int32) (pr : Nat → Int32) (SI : Nat → Nat → Int32) (OI : Nat → Nat → Int32) (tn : Nat → Nat → Int32) (nS : Nat) (nO : Nat) (A : Nat → Prop) : Array Value → State → Outcome → State → Prop := va_Qi (fun (r_ : Int32) (u : Int32) => r_ = u ∧ u = f_X1_tons h0 h1 h2 h3 x wh WI) (bx D (fun u => [(o, eRM r (.ref wa) I L), ((r 7), eST sr TI TL), ((sr 0), aI k 5 h0), ((sr 1), aI k 5 h1), ((sr 2), aI k 5 h2), ((sr 3), aI k 5 h3)]) A) A
abbrev rm_X1_tons : Room := { frames := 3, cells := 0, slots := 0, locals := 120 }
theorem xo_X1_tons : xok yX1_tons 2 := by unfold xok; decide +kernel
set_option maxHeartbeats 8000000 in
theorem m_X1_tons (l : Launch) (D : va_G) (k : KK) (sz : Nat) (o : Nat) (r : Nat → Nat) (I : Nat → Int32) (L : Nat → Int64) (sr : Nat → Nat) (TI : Nat → Int32) (TL : Nat → Int64) (h0 : Nat → Int32) (h1 : Nat → Int32) (h2 : Nat → Int32) (h3 : Nat → Int32) (x : Int32) (wh : Int32) (wa : Nat) (wd : WAd) (WI : Nat → Int32) (pr : Nat → Int32) (SI : Nat → Nat → Int32) (OI : Nat → Nat → Int32) (tn : Nat → Nat → Int32) (nS : Nat) (nO : Nat) (hnS : WI 3 = nI nS) (hnO : WI 4 = nI nO) (hS2 : 2 ≤ nS) (hS5 : nS ≤ 5) (hO4 : nO ≤ 4) : Met l yX1_tons (ws_ yX1_tons cX1_tons 3 (some .int)) rm_X1_tons (pcx D k [.ref o, .int x, .int wh] sz [(o, eRM r (.ref wa) I L), ((r 7), eST sr TI TL), ((sr 0), aI k 5 h0), ((sr 1), aI k 5 h1), ((sr 2), aI k 5 h2), ((sr 3), aI k 5 h3)] (wkY D k wa wd WI pr SI OI tn nS nO (va_A [(o, eRM r (.ref wa) I L), ((r 7), eST sr TI TL), ((sr 0), aI k 5 h0), ((sr 1), aI k 5 h1), ((sr 2), aI k 5 h2), ((sr 3), aI k 5 h3)] sz))) (q_X1_tons D k o r I L sr TI TL h0 h1 h2 h3 x wh wa wd WI pr SI OI tn nS nO (va_A [(o, eRM r (.ref wa) I L), ((r 7), eST sr TI TL), ((sr 0), aI k 5 h0), ((sr 1), aI k 5 h1), ((sr 2), aI k 5 h2), ((sr 3), aI k 5 h3)] sz)) 0 0 (va_A [(o, eRM r (.ref wa) I L), ((r 7), eST sr TI TL), ((sr 0), aI k 5 h0), ((sr 1), aI k 5 h1), ((sr 2), aI k 5 h2), ((sr 3), aI k 5 h3)] sz) := by
  refine Met.start (Qc := q_X1_tons D k o r I L sr TI TL h0 h1 h2 h3 x wh wa wd WI pr SI OI tn nS nO) (by decide) (Nat.le_of_ble_eq_true rfl) ?_
  intro p e s m below meth c A hx hb hr hlocks hml hown hin hts hg hP hD hA hAn hS hY hsz ls hl
  have hown : s.vm.findClass RX1 = some m.cls := hown
  have hl : lv_has ls 3 [(0, .ref o), (1, .int x), (2, .int wh)] := hl
  have hW := wkY.mono hY hAn
  refine lv_aload_n hx hb dX1_tons_0 rfl (lv_at hl 0 rfl) ?_
  refine va_get (D := D) (ci := 0) (v := .ref wa) (C := RX1) (T := TX1) (N := 29) hx hb hts in_X1 hown hg.1 hP 0 rfl rfl 3 (Nat.le_of_ble_eq_true rfl) (hts _ q367) (fun _ h9 => h9) rfl dX1_tons_1 ?_
  refine lv_ifnull hx hb dX1_tons_4 ?_
  refine lv_iload_n hx hb dX1_tons_7 rfl (lv_at hl 1 rfl) ?_
  refine lv_iconst (v := 0) hx hb dX1_tons_8 ci_0 ?_
  refine lv_aload_n hx hb dX1_tons_9 rfl (lv_at hl 0 rfl) ?_
  refine va_get (D := D) (ci := 0) (v := .ref wa) (C := RX1) (T := TX1) (N := 29) hx hb hts in_X1 hown hg.1 hP 0 rfl rfl 3 (Nat.le_of_ble_eq_true rfl) (hts _ q367) (fun _ h9 => h9) rfl dX1_tons_10 ?_
  refine va_get (D := D) (ci := 7) (v := .int (WI 3)) (C := RX9) (T := TX9) (N := 13) hx hb hts in_X9 hown hg.1 (wkat hW hS).1 0 rfl rfl 3 (Nat.le_of_ble_eq_true rfl) (hts _ q503) (fun _ h9 => h9) rfl dX1_tons_13 ?_
  refine lv_iconst (v := 1) hx hb dX1_tons_16 ci_1 ?_
  refine lv_isub hx hb dX1_tons_17 ?_
  refine xc_i (wc := []) (wr := [(o, eRM r (.ref wa) I L), ((r 7), eST sr TI TL), ((sr 0), aI k 5 h0), ((sr 1), aI k 5 h1), ((sr 2), aI k 5 h2), ((sr 3), aI k 5 h3)]) hP hD hS hA [] [0, 1, 2, 3, 4, 5] rfl rfl rfl (by decide) (xrS ⟨hx, hb, hml, hown, hts⟩ hg (m_X1_in l D k _ x 0 ((WI 3) - 1)) hP hD [] rfl rfl trivial q469 q470 q83 q471 xo_X1_in ⟨rfl, rfl⟩ ⟨Nat.le_of_ble_eq_true rfl, Nat.le_of_ble_eq_true rfl⟩ hl.1 (Nat.le_of_ble_eq_true rfl) dX1_tons_18 ⟨Nat.le_of_ble_eq_true rfl, Nat.le_of_ble_eq_true rfl⟩ rfl) (fun u1 r_ H locs hw hP hD hS hk => ?_)
  obtain ⟨rfl, eu1, bu1⟩ := hw
  replace hP : va_P D vwCl [(o, eRM r (.ref wa) I L), ((r 7), eST sr TI TL), ((sr 0), aI k 5 h0), ((sr 1), aI k 5 h1), ((sr 2), aI k 5 h2), ((sr 3), aI k 5 h3)] H := hP.sub [0, 1, 2, 3, 4, 5] rfl
  replace hD : va_D A [(o, eRM r (.ref wa) I L), ((r 7), eST sr TI TL), ((sr 0), aI k 5 h0), ((sr 1), aI k 5 h1), ((sr 2), aI k 5 h2), ((sr 3), aI k 5 h3)] := hD.sub [0, 1, 2, 3, 4, 5] (by decide) rfl
  refine lv_if_ne (tgt := 26) hx hb dX1_tons_21 (by decide) (fun c2 => ?_) (fun c2 => ?_)
  · obtain ⟨hn_x, hb_x⟩ := c_in0 (xnsub hnS xl_1 (by omega)) (by omega) (fun h => c2 (eu1.trans h))
    refine lv_iload_n hx hb dX1_tons_26 rfl (lv_at hl 2 rfl) ?_
    by_cases c3 : wh = 0
    · refine lv_tableIn (off := 29) (tgt := 56) hx hb dX1_tons_27 (by rw [c3]; decide) (by rw [c3]; decide) (by rw [c3]; decide) (by decide) ?_
      refine lv_aload_n hx hb dX1_tons_56 rfl (lv_at hl 0 rfl) ?_
      refine va_get (D := D) (ci := 0) (v := .ref (r 7)) (C := RX1) (T := TX1) (N := 29) hx hb hts in_X1 hown hg.1 hP 0 rfl rfl 7 (Nat.le_of_ble_eq_true rfl) (hts _ q371) (fun _ h9 => h9) rfl dX1_tons_57 ?_
      refine va_get (D := D) (ci := 3) (v := .ref (sr 0)) (C := RX4) (T := TX4) (N := 18) hx hb hts in_X4 hown hg.1 hP 1 rfl rfl 0 (Nat.le_of_ble_eq_true rfl) (hts _ q234) (fun _ h9 => h9) rfl dX1_tons_60 ?_
      refine lv_iload_n hx hb dX1_tons_63 rfl (lv_at hl 1 rfl) ?_
      refine xa_iald hx hb hg hP 2 rfl hn_x (by first | omega | exact Nat.lt_of_lt_of_le (Nat.mod_lt _ (by omega)) (by omega)) (by omega) dX1_tons_64 ?_
      exact xret_i hx hb hr hlocks (Nat.le_of_ble_eq_true rfl) (Nat.le_of_ble_eq_true rfl) hS.2.2 dX1_tons_65 (fun t ht => ⟨⟨(h0 x.toNatClampNeg), (h0 x.toNatClampNeg), rfl, ⟨rfl, (by subst eu1; exact Eq.symm (Eq.trans (if_neg c2) (Eq.trans (if_pos c3) (rfl))))⟩, by rw [ht]; exact hP, hD⟩, hS.F ht⟩)
    · by_cases c4 : wh = 1
      · refine lv_tableIn (off := 39) (tgt := 66) hx hb dX1_tons_27 (by rw [c4]; decide) (by rw [c4]; decide) (by rw [c4]; decide) (by decide) ?_
        refine lv_aload_n hx hb dX1_tons_66 rfl (lv_at hl 0 rfl) ?_
        refine va_get (D := D) (ci := 0) (v := .ref (r 7)) (C := RX1) (T := TX1) (N := 29) hx hb hts in_X1 hown hg.1 hP 0 rfl rfl 7 (Nat.le_of_ble_eq_true rfl) (hts _ q371) (fun _ h9 => h9) rfl dX1_tons_67 ?_
        refine va_get (D := D) (ci := 3) (v := .ref (sr 1)) (C := RX4) (T := TX4) (N := 18) hx hb hts in_X4 hown hg.1 hP 1 rfl rfl 1 (Nat.le_of_ble_eq_true rfl) (hts _ q236) (fun _ h9 => h9) rfl dX1_tons_70 ?_
        refine lv_iload_n hx hb dX1_tons_73 rfl (lv_at hl 1 rfl) ?_
        refine xa_iald hx hb hg hP 3 rfl hn_x (by first | omega | exact Nat.lt_of_lt_of_le (Nat.mod_lt _ (by omega)) (by omega)) (by omega) dX1_tons_74 ?_
        exact xret_i hx hb hr hlocks (Nat.le_of_ble_eq_true rfl) (Nat.le_of_ble_eq_true rfl) hS.2.2 dX1_tons_75 (fun t ht => ⟨⟨(h1 x.toNatClampNeg), (h1 x.toNatClampNeg), rfl, ⟨rfl, (by subst eu1; exact Eq.symm (Eq.trans (if_neg c2) (Eq.trans (if_neg c3) (Eq.trans (if_pos c4) (rfl)))))⟩, by rw [ht]; exact hP, hD⟩, hS.F ht⟩)
      · by_cases c5 : wh = 2
        · refine lv_tableIn (off := 49) (tgt := 76) hx hb dX1_tons_27 (by rw [c5]; decide) (by rw [c5]; decide) (by rw [c5]; decide) (by decide) ?_
          refine lv_aload_n hx hb dX1_tons_76 rfl (lv_at hl 0 rfl) ?_
          refine va_get (D := D) (ci := 0) (v := .ref (r 7)) (C := RX1) (T := TX1) (N := 29) hx hb hts in_X1 hown hg.1 hP 0 rfl rfl 7 (Nat.le_of_ble_eq_true rfl) (hts _ q371) (fun _ h9 => h9) rfl dX1_tons_77 ?_
          refine va_get (D := D) (ci := 3) (v := .ref (sr 2)) (C := RX4) (T := TX4) (N := 18) hx hb hts in_X4 hown hg.1 hP 1 rfl rfl 2 (Nat.le_of_ble_eq_true rfl) (hts _ q238) (fun _ h9 => h9) rfl dX1_tons_80 ?_
          refine lv_iload_n hx hb dX1_tons_83 rfl (lv_at hl 1 rfl) ?_
          refine xa_iald hx hb hg hP 4 rfl hn_x (by first | omega | exact Nat.lt_of_lt_of_le (Nat.mod_lt _ (by omega)) (by omega)) (by omega) dX1_tons_84 ?_
          exact xret_i hx hb hr hlocks (Nat.le_of_ble_eq_true rfl) (Nat.le_of_ble_eq_true rfl) hS.2.2 dX1_tons_85 (fun t ht => ⟨⟨(h2 x.toNatClampNeg), (h2 x.toNatClampNeg), rfl, ⟨rfl, (by subst eu1; exact Eq.symm (Eq.trans (if_neg c2) (Eq.trans (if_neg c3) (Eq.trans (if_neg c4) (Eq.trans (if_pos c5) (rfl))))))⟩, by rw [ht]; exact hP, hD⟩, hS.F ht⟩)
        · by_cases c6 : wh = 3
          · refine lv_tableIn (off := 59) (tgt := 86) hx hb dX1_tons_27 (by rw [c6]; decide) (by rw [c6]; decide) (by rw [c6]; decide) (by decide) ?_
            refine lv_aload_n hx hb dX1_tons_86 rfl (lv_at hl 0 rfl) ?_
            refine va_get (D := D) (ci := 0) (v := .ref (r 7)) (C := RX1) (T := TX1) (N := 29) hx hb hts in_X1 hown hg.1 hP 0 rfl rfl 7 (Nat.le_of_ble_eq_true rfl) (hts _ q371) (fun _ h9 => h9) rfl dX1_tons_87 ?_
            refine va_get (D := D) (ci := 3) (v := .ref (sr 3)) (C := RX4) (T := TX4) (N := 18) hx hb hts in_X4 hown hg.1 hP 1 rfl rfl 3 (Nat.le_of_ble_eq_true rfl) (hts _ q240) (fun _ h9 => h9) rfl dX1_tons_90 ?_
            refine lv_iload_n hx hb dX1_tons_93 rfl (lv_at hl 1 rfl) ?_
            refine xa_iald hx hb hg hP 5 rfl hn_x (by first | omega | exact Nat.lt_of_lt_of_le (Nat.mod_lt _ (by omega)) (by omega)) (by omega) dX1_tons_94 ?_
            exact xret_i hx hb hr hlocks (Nat.le_of_ble_eq_true rfl) (Nat.le_of_ble_eq_true rfl) hS.2.2 dX1_tons_95 (fun t ht => ⟨⟨(h3 x.toNatClampNeg), (h3 x.toNatClampNeg), rfl, ⟨rfl, (by subst eu1; exact Eq.symm (Eq.trans (if_neg c2) (Eq.trans (if_neg c3) (Eq.trans (if_neg c4) (Eq.trans (if_neg c5) (Eq.trans (if_pos c6) (rfl)))))))⟩, by rw [ht]; exact hP, hD⟩, hS.F ht⟩)
          · refine lv_tableOut (tgt := 96) hx hb dX1_tons_27 (by have h0_ := lv_neT c3 (show (0 : Int32).toInt = 0 from by decide); have h1_ := lv_neT c4 (show (1 : Int32).toInt = 1 from by decide); have h2_ := lv_neT c5 (show (2 : Int32).toInt = 2 from by decide); have h3_ := lv_neT c6 (show (3 : Int32).toInt = 3 from by decide); omega) (by decide) ?_
            refine lv_iconst (v := (-1)) hx hb dX1_tons_96 ci_m1 ?_
            exact xret_i hx hb hr hlocks (Nat.le_of_ble_eq_true rfl) (Nat.le_of_ble_eq_true rfl) hS.2.2 dX1_tons_97 (fun t ht => ⟨⟨(-1), (-1), rfl, ⟨rfl, (by subst eu1; exact Eq.symm (Eq.trans (if_neg c2) (Eq.trans (if_neg c3) (Eq.trans (if_neg c4) (Eq.trans (if_neg c5) (Eq.trans (if_neg c6) (rfl)))))))⟩, by rw [ht]; exact hP, hD⟩, hS.F ht⟩)
  · refine lv_iconst (v := (-1)) hx hb dX1_tons_24 ci_m1 ?_
    exact xret_i hx hb hr hlocks (Nat.le_of_ble_eq_true rfl) (Nat.le_of_ble_eq_true rfl) hS.2.2 dX1_tons_25 (fun t ht => ⟨⟨(-1), (-1), rfl, ⟨rfl, (by subst eu1; exact Eq.symm (Eq.trans (if_pos c2) (rfl)))⟩, by rw [ht]; exact hP, hD⟩, hS.F ht⟩)

def f_X1_tonsN  : Int32 :=
  (-1)
abbrev q_X1_tonsN (D : va_G) (k : KK) (o : Nat) (r : Nat → Nat) (I : Nat → Int32) (L : Nat → Int64) (x : Int32) (wh : Int32) (A : Nat → Prop) : Array Value → State → Outcome → State → Prop := va_Qi (fun (r_ : Int32) (u : Int32) => r_ = u ∧ u = f_X1_tonsN) (bx D (fun u => [(o, eRM r .null I L)]) A) A
abbrev rm_X1_tonsN : Room := { frames := 3, cells := 0, slots := 0, locals := 120 }
set_option maxHeartbeats 8000000 in
theorem m_X1_tonsN (l : Launch) (D : va_G) (k : KK) (sz : Nat) (o : Nat) (r : Nat → Nat) (I : Nat → Int32) (L : Nat → Int64) (x : Int32) (wh : Int32)  : Met l yX1_tons (ws_ yX1_tons cX1_tons 3 (some .int)) rm_X1_tonsN (pcx D k [.ref o, .int x, .int wh] sz [(o, eRM r .null I L)] (fun _ => True)) (q_X1_tonsN D k o r I L x wh (va_A [(o, eRM r .null I L)] sz)) 0 0 (va_A [(o, eRM r .null I L)] sz) := by
  refine Met.start (Qc := q_X1_tonsN D k o r I L x wh) (by decide) (Nat.le_of_ble_eq_true rfl) ?_
  intro p e s m below meth c A hx hb hr hlocks hml hown hin hts hg hP hD hA hAn hS hY hsz ls hl
  have hown : s.vm.findClass RX1 = some m.cls := hown
  have hl : lv_has ls 3 [(0, .ref o), (1, .int x), (2, .int wh)] := hl
  refine lv_aload_n hx hb dX1_tons_0 rfl (lv_at hl 0 rfl) ?_
  refine va_get (D := D) (ci := 0) (v := .null) (C := RX1) (T := TX1) (N := 29) hx hb hts in_X1 hown hg.1 hP 0 rfl rfl 3 (Nat.le_of_ble_eq_true rfl) (hts _ q367) (fun _ h9 => h9) rfl dX1_tons_1 ?_
  refine lv_ifnullN (tgt := 24) hx hb dX1_tons_4 (by decide) ?_
  refine lv_iconst (v := (-1)) hx hb dX1_tons_24 ci_m1 ?_
  exact xret_i hx hb hr hlocks (Nat.le_of_ble_eq_true rfl) (Nat.le_of_ble_eq_true rfl) hS.2.2 dX1_tons_25 (fun t ht => ⟨⟨(-1), (-1), rfl, ⟨rfl, rfl⟩, by rw [ht]; exact hP, hD⟩, hS.F ht⟩)

def f_X1_state_j1 (TI : Nat → Int32) : (Int32) :=
  if (TI 17) = 0 then
    0
  else
    1
def f_X1_state (TI : Nat → Int32) (TL : Nat → Int64) (J0 : Nat → Int32) (x : Int32) : Int32 :=
  if x = 0 then
    (TI 4)
  else
    if x = 1 then
      (TI 5)
    else
      if x = 2 then
        (TI 6)
      else
        if x = 3 then
          (TI 7)
        else
          if x = 4 then
            (TI 8)
          else
            if x = 5 then
              (TI 9)
            else
              if x = 6 then
                let v10 := f_X1_state_j1 TI
                v10
              else
                if x = 7 then
                  (TI 10)
                else
                  if x = 8 then
                    (TI 11)
                  else
                    if x = 9 then
                      (TI 12)
                    else
                      if x = 10 then
                        (TI 13)
                      else
                        if x = 11 then
                          (TI 14)
                        else
                          if x = 12 then
                            ((TL 16).toInt32)
                          else
                            if x = 13 then
                              (TI 15)
                            else
                              if x = 14 then
                                (J0 0)
                              else
                                if x = 15 then
                                  (J0 1)
                                else
                                  if x = 16 then
                                    (J0 2)
                                  else
                                    (-1)
abbrev q_X1_state (D : va_G) (k : KK) (o : Nat) (r : Nat → Nat) (I : Nat → Int32) (L : Nat → Int64) (sr : Nat → Nat) (TI : Nat → Int32) (TL : Nat → Int64) (J0 : Nat → Int32) (x : Int32) (wa : Nat) (wd : WAd) (WI : Nat → Int32) (pr : Nat → Int32) (SI : Nat → Nat → Int32) (OI : Nat → Nat → Int32) (tn : Nat → Nat → Int32) (nS : Nat) (nO : Nat) (A : Nat → Prop) : Array Value → State → Outcome → State → Prop := va_Qi (fun (r_ : Int32) (u : Int32) => r_ = u ∧ u = f_X1_state TI TL J0 x) (bx D (fun u => [(o, eRM r (.ref wa) I L), ((r 7), eST sr TI TL), ((r 9), eSE J0)]) A) A
abbrev rm_X1_state : Room := { frames := 3, cells := 0, slots := 0, locals := 120 }
theorem xo_X1_state : xok yX1_state 1 := by unfold xok; decide +kernel
set_option maxHeartbeats 8000000 in
theorem m_X1_state (l : Launch) (D : va_G) (k : KK) (sz : Nat) (o : Nat) (r : Nat → Nat) (I : Nat → Int32) (L : Nat → Int64) (sr : Nat → Nat) (TI : Nat → Int32) (TL : Nat → Int64) (J0 : Nat → Int32) (x : Int32) (wa : Nat) (wd : WAd) (WI : Nat → Int32) (pr : Nat → Int32) (SI : Nat → Nat → Int32) (OI : Nat → Nat → Int32) (tn : Nat → Nat → Int32) (nS : Nat) (nO : Nat) (hnS : WI 3 = nI nS) (hnO : WI 4 = nI nO) (hS2 : 2 ≤ nS) (hS5 : nS ≤ 5) (hO4 : nO ≤ 4) : Met l yX1_state (ws_ yX1_state cX1_state 2 (some .int)) rm_X1_state (pcx D k [.ref o, .int x] sz [(o, eRM r (.ref wa) I L), ((r 7), eST sr TI TL), ((r 9), eSE J0)] (wkY D k wa wd WI pr SI OI tn nS nO (va_A [(o, eRM r (.ref wa) I L), ((r 7), eST sr TI TL), ((r 9), eSE J0)] sz))) (q_X1_state D k o r I L sr TI TL J0 x wa wd WI pr SI OI tn nS nO (va_A [(o, eRM r (.ref wa) I L), ((r 7), eST sr TI TL), ((r 9), eSE J0)] sz)) 0 0 (va_A [(o, eRM r (.ref wa) I L), ((r 7), eST sr TI TL), ((r 9), eSE J0)] sz) := by
  refine Met.start (Qc := q_X1_state D k o r I L sr TI TL J0 x wa wd WI pr SI OI tn nS nO) (by decide) (Nat.le_of_ble_eq_true rfl) ?_
  intro p e s m below meth c A hx hb hr hlocks hml hown hin hts hg hP hD hA hAn hS hY hsz ls hl
  have hown : s.vm.findClass RX1 = some m.cls := hown
  have hl : lv_has ls 2 [(0, .ref o), (1, .int x)] := hl
  have hW := wkY.mono hY hAn
  refine lv_aload_n hx hb dX1_state_0 rfl (lv_at hl 0 rfl) ?_
  refine va_get (D := D) (ci := 0) (v := .ref wa) (C := RX1) (T := TX1) (N := 29) hx hb hts in_X1 hown hg.1 hP 0 rfl rfl 3 (Nat.le_of_ble_eq_true rfl) (hts _ q367) (fun _ h9 => h9) rfl dX1_state_1 ?_
  refine lv_ifnonnull (tgt := 23) hx hb dX1_state_4 (by decide) ?_
  refine lv_iload_n hx hb dX1_state_23 rfl (lv_at hl 1 rfl) ?_
  by_cases c1 : x = 0
  · refine lv_tableIn (off := 84) (tgt := 108) hx hb dX1_state_24 (by rw [c1]; decide) (by rw [c1]; decide) (by rw [c1]; decide) (by decide) ?_
    refine lv_aload_n hx hb dX1_state_108 rfl (lv_at hl 0 rfl) ?_
    refine va_get (D := D) (ci := 0) (v := .ref (r 7)) (C := RX1) (T := TX1) (N := 29) hx hb hts in_X1 hown hg.1 hP 0 rfl rfl 7 (Nat.le_of_ble_eq_true rfl) (hts _ q371) (fun _ h9 => h9) rfl dX1_state_109 ?_
    refine va_get (D := D) (ci := 3) (v := .int (TI 4)) (C := RX4) (T := TX4) (N := 18) hx hb hts in_X4 hown hg.1 hP 1 rfl rfl 4 (Nat.le_of_ble_eq_true rfl) (hts _ q242) (fun _ h9 => h9) rfl dX1_state_112 ?_
    exact xret_i hx hb hr hlocks (Nat.le_of_ble_eq_true rfl) (Nat.le_of_ble_eq_true rfl) hS.2.2 dX1_state_115 (fun t ht => ⟨⟨(TI 4), (TI 4), rfl, ⟨rfl, (by exact Eq.symm (Eq.trans (if_pos c1) (rfl)))⟩, by rw [ht]; exact hP, hD⟩, hS.F ht⟩)
  · by_cases c2 : x = 1
    · refine lv_tableIn (off := 92) (tgt := 116) hx hb dX1_state_24 (by rw [c2]; decide) (by rw [c2]; decide) (by rw [c2]; decide) (by decide) ?_
      refine lv_aload_n hx hb dX1_state_116 rfl (lv_at hl 0 rfl) ?_
      refine va_get (D := D) (ci := 0) (v := .ref (r 7)) (C := RX1) (T := TX1) (N := 29) hx hb hts in_X1 hown hg.1 hP 0 rfl rfl 7 (Nat.le_of_ble_eq_true rfl) (hts _ q371) (fun _ h9 => h9) rfl dX1_state_117 ?_
      refine va_get (D := D) (ci := 3) (v := .int (TI 5)) (C := RX4) (T := TX4) (N := 18) hx hb hts in_X4 hown hg.1 hP 1 rfl rfl 5 (Nat.le_of_ble_eq_true rfl) (hts _ q244) (fun _ h9 => h9) rfl dX1_state_120 ?_
      exact xret_i hx hb hr hlocks (Nat.le_of_ble_eq_true rfl) (Nat.le_of_ble_eq_true rfl) hS.2.2 dX1_state_123 (fun t ht => ⟨⟨(TI 5), (TI 5), rfl, ⟨rfl, (by exact Eq.symm (Eq.trans (if_neg c1) (Eq.trans (if_pos c2) (rfl))))⟩, by rw [ht]; exact hP, hD⟩, hS.F ht⟩)
    · by_cases c3 : x = 2
      · refine lv_tableIn (off := 100) (tgt := 124) hx hb dX1_state_24 (by rw [c3]; decide) (by rw [c3]; decide) (by rw [c3]; decide) (by decide) ?_
        refine lv_aload_n hx hb dX1_state_124 rfl (lv_at hl 0 rfl) ?_
        refine va_get (D := D) (ci := 0) (v := .ref (r 7)) (C := RX1) (T := TX1) (N := 29) hx hb hts in_X1 hown hg.1 hP 0 rfl rfl 7 (Nat.le_of_ble_eq_true rfl) (hts _ q371) (fun _ h9 => h9) rfl dX1_state_125 ?_
        refine va_get (D := D) (ci := 3) (v := .int (TI 6)) (C := RX4) (T := TX4) (N := 18) hx hb hts in_X4 hown hg.1 hP 1 rfl rfl 6 (Nat.le_of_ble_eq_true rfl) (hts _ q246) (fun _ h9 => h9) rfl dX1_state_128 ?_
        exact xret_i hx hb hr hlocks (Nat.le_of_ble_eq_true rfl) (Nat.le_of_ble_eq_true rfl) hS.2.2 dX1_state_131 (fun t ht => ⟨⟨(TI 6), (TI 6), rfl, ⟨rfl, (by exact Eq.symm (Eq.trans (if_neg c1) (Eq.trans (if_neg c2) (Eq.trans (if_pos c3) (rfl)))))⟩, by rw [ht]; exact hP, hD⟩, hS.F ht⟩)
      · by_cases c4 : x = 3
        · refine lv_tableIn (off := 108) (tgt := 132) hx hb dX1_state_24 (by rw [c4]; decide) (by rw [c4]; decide) (by rw [c4]; decide) (by decide) ?_
          refine lv_aload_n hx hb dX1_state_132 rfl (lv_at hl 0 rfl) ?_
          refine va_get (D := D) (ci := 0) (v := .ref (r 7)) (C := RX1) (T := TX1) (N := 29) hx hb hts in_X1 hown hg.1 hP 0 rfl rfl 7 (Nat.le_of_ble_eq_true rfl) (hts _ q371) (fun _ h9 => h9) rfl dX1_state_133 ?_
          refine va_get (D := D) (ci := 3) (v := .int (TI 7)) (C := RX4) (T := TX4) (N := 18) hx hb hts in_X4 hown hg.1 hP 1 rfl rfl 7 (Nat.le_of_ble_eq_true rfl) (hts _ q248) (fun _ h9 => h9) rfl dX1_state_136 ?_
          exact xret_i hx hb hr hlocks (Nat.le_of_ble_eq_true rfl) (Nat.le_of_ble_eq_true rfl) hS.2.2 dX1_state_139 (fun t ht => ⟨⟨(TI 7), (TI 7), rfl, ⟨rfl, (by exact Eq.symm (Eq.trans (if_neg c1) (Eq.trans (if_neg c2) (Eq.trans (if_neg c3) (Eq.trans (if_pos c4) (rfl))))))⟩, by rw [ht]; exact hP, hD⟩, hS.F ht⟩)
        · by_cases c5 : x = 4
          · refine lv_tableIn (off := 116) (tgt := 140) hx hb dX1_state_24 (by rw [c5]; decide) (by rw [c5]; decide) (by rw [c5]; decide) (by decide) ?_
            refine lv_aload_n hx hb dX1_state_140 rfl (lv_at hl 0 rfl) ?_
            refine va_get (D := D) (ci := 0) (v := .ref (r 7)) (C := RX1) (T := TX1) (N := 29) hx hb hts in_X1 hown hg.1 hP 0 rfl rfl 7 (Nat.le_of_ble_eq_true rfl) (hts _ q371) (fun _ h9 => h9) rfl dX1_state_141 ?_
            refine va_get (D := D) (ci := 3) (v := .int (TI 8)) (C := RX4) (T := TX4) (N := 18) hx hb hts in_X4 hown hg.1 hP 1 rfl rfl 8 (Nat.le_of_ble_eq_true rfl) (hts _ q250) (fun _ h9 => h9) rfl dX1_state_144 ?_
            exact xret_i hx hb hr hlocks (Nat.le_of_ble_eq_true rfl) (Nat.le_of_ble_eq_true rfl) hS.2.2 dX1_state_147 (fun t ht => ⟨⟨(TI 8), (TI 8), rfl, ⟨rfl, (by exact Eq.symm (Eq.trans (if_neg c1) (Eq.trans (if_neg c2) (Eq.trans (if_neg c3) (Eq.trans (if_neg c4) (Eq.trans (if_pos c5) (rfl)))))))⟩, by rw [ht]; exact hP, hD⟩, hS.F ht⟩)
          · by_cases c6 : x = 5
            · refine lv_tableIn (off := 124) (tgt := 148) hx hb dX1_state_24 (by rw [c6]; decide) (by rw [c6]; decide) (by rw [c6]; decide) (by decide) ?_
              refine lv_aload_n hx hb dX1_state_148 rfl (lv_at hl 0 rfl) ?_
              refine va_get (D := D) (ci := 0) (v := .ref (r 7)) (C := RX1) (T := TX1) (N := 29) hx hb hts in_X1 hown hg.1 hP 0 rfl rfl 7 (Nat.le_of_ble_eq_true rfl) (hts _ q371) (fun _ h9 => h9) rfl dX1_state_149 ?_
              refine va_get (D := D) (ci := 3) (v := .int (TI 9)) (C := RX4) (T := TX4) (N := 18) hx hb hts in_X4 hown hg.1 hP 1 rfl rfl 9 (Nat.le_of_ble_eq_true rfl) (hts _ q252) (fun _ h9 => h9) rfl dX1_state_152 ?_
              exact xret_i hx hb hr hlocks (Nat.le_of_ble_eq_true rfl) (Nat.le_of_ble_eq_true rfl) hS.2.2 dX1_state_155 (fun t ht => ⟨⟨(TI 9), (TI 9), rfl, ⟨rfl, (by exact Eq.symm (Eq.trans (if_neg c1) (Eq.trans (if_neg c2) (Eq.trans (if_neg c3) (Eq.trans (if_neg c4) (Eq.trans (if_neg c5) (Eq.trans (if_pos c6) (rfl))))))))⟩, by rw [ht]; exact hP, hD⟩, hS.F ht⟩)
            · by_cases c7 : x = 6
              · refine lv_tableIn (off := 132) (tgt := 156) hx hb dX1_state_24 (by rw [c7]; decide) (by rw [c7]; decide) (by rw [c7]; decide) (by decide) ?_
                refine lv_aload_n hx hb dX1_state_156 rfl (lv_at hl 0 rfl) ?_
                refine va_get (D := D) (ci := 0) (v := .ref (r 7)) (C := RX1) (T := TX1) (N := 29) hx hb hts in_X1 hown hg.1 hP 0 rfl rfl 7 (Nat.le_of_ble_eq_true rfl) (hts _ q371) (fun _ h9 => h9) rfl dX1_state_157 ?_
                refine va_get (D := D) (ci := 3) (v := .int (TI 17)) (C := RX4) (T := TX4) (N := 18) hx hb hts in_X4 hown hg.1 hP 1 rfl rfl 17 (Nat.le_of_ble_eq_true rfl) (hts _ q268) (fun _ h9 => h9) rfl dX1_state_160 ?_
                have Jn1 : ∀ (v10 : (Int32)) (H : Heap) (locs : List Loc) (ls : Array Slot), v10 = f_X1_state_j1 TI → (v10 = 0 ∨ v10 = 1) → va_P D vwCl [(o, eRM r (.ref wa) I L), ((r 7), eST sr TI TL), ((r 9), eSE J0)] H → va_D A [(o, eRM r (.ref wa) I L), ((r 7), eST sr TI TL), ((r 9), eSE J0)] → va_S A s.heap H locs → lv_has ls 2 [(0, .ref o), (1, .int x)] → W p l e rm_X1_state s m ([.ref o, .int x] : List Value).toArray below meth c H locs 0 0 (MQ below (q_X1_state D k o r I L sr TI TL J0 x wa wd WI pr SI OI tn nS nO A) ([.ref o, .int x] : List Value).toArray s 0 0 A) (F0 m 171 ls [.int v10]) := by
                  intro v10 H locs ls ev10 bv10_0 hP hD hS hl
                  exact xret_i hx hb hr hlocks (Nat.le_of_ble_eq_true rfl) (Nat.le_of_ble_eq_true rfl) hS.2.2 dX1_state_171 (fun t ht => ⟨⟨v10, v10, rfl, ⟨rfl, (by subst ev10; exact Eq.symm (Eq.trans (if_neg c1) (Eq.trans (if_neg c2) (Eq.trans (if_neg c3) (Eq.trans (if_neg c4) (Eq.trans (if_neg c5) (Eq.trans (if_neg c6) (Eq.trans (if_pos c7) (rfl)))))))))⟩, by rw [ht]; exact hP, hD⟩, hS.F ht⟩)
                refine lv_if_eq (tgt := 170) hx hb dX1_state_163 (by decide) (fun c11 => ?_) (fun c11 => ?_)
                · refine lv_iconst (v := 0) hx hb dX1_state_170 ci_0 ?_
                  exact Jn1 0 _ _ _ (by exact Eq.symm (Eq.trans (if_pos c11) (rfl))) (Or.inl rfl) hP hD hS (lv_sub hl [0, 1] rfl)
                · refine lv_iconst (v := 1) hx hb dX1_state_166 ci_1 ?_
                  refine lv_goto (tgt := 171) hx hb dX1_state_167 (by decide) ?_
                  exact Jn1 1 _ _ _ (by exact Eq.symm (Eq.trans (if_neg c11) (rfl))) (Or.inr rfl) hP hD hS (lv_sub hl [0, 1] rfl)
              · by_cases c12 : x = 7
                · refine lv_tableIn (off := 148) (tgt := 172) hx hb dX1_state_24 (by rw [c12]; decide) (by rw [c12]; decide) (by rw [c12]; decide) (by decide) ?_
                  refine lv_aload_n hx hb dX1_state_172 rfl (lv_at hl 0 rfl) ?_
                  refine va_get (D := D) (ci := 0) (v := .ref (r 7)) (C := RX1) (T := TX1) (N := 29) hx hb hts in_X1 hown hg.1 hP 0 rfl rfl 7 (Nat.le_of_ble_eq_true rfl) (hts _ q371) (fun _ h9 => h9) rfl dX1_state_173 ?_
                  refine va_get (D := D) (ci := 3) (v := .int (TI 10)) (C := RX4) (T := TX4) (N := 18) hx hb hts in_X4 hown hg.1 hP 1 rfl rfl 10 (Nat.le_of_ble_eq_true rfl) (hts _ q254) (fun _ h9 => h9) rfl dX1_state_176 ?_
                  exact xret_i hx hb hr hlocks (Nat.le_of_ble_eq_true rfl) (Nat.le_of_ble_eq_true rfl) hS.2.2 dX1_state_179 (fun t ht => ⟨⟨(TI 10), (TI 10), rfl, ⟨rfl, (by exact Eq.symm (Eq.trans (if_neg c1) (Eq.trans (if_neg c2) (Eq.trans (if_neg c3) (Eq.trans (if_neg c4) (Eq.trans (if_neg c5) (Eq.trans (if_neg c6) (Eq.trans (if_neg c7) (Eq.trans (if_pos c12) (rfl))))))))))⟩, by rw [ht]; exact hP, hD⟩, hS.F ht⟩)
                · by_cases c13 : x = 8
                  · refine lv_tableIn (off := 156) (tgt := 180) hx hb dX1_state_24 (by rw [c13]; decide) (by rw [c13]; decide) (by rw [c13]; decide) (by decide) ?_
                    refine lv_aload_n hx hb dX1_state_180 rfl (lv_at hl 0 rfl) ?_
                    refine va_get (D := D) (ci := 0) (v := .ref (r 7)) (C := RX1) (T := TX1) (N := 29) hx hb hts in_X1 hown hg.1 hP 0 rfl rfl 7 (Nat.le_of_ble_eq_true rfl) (hts _ q371) (fun _ h9 => h9) rfl dX1_state_181 ?_
                    refine va_get (D := D) (ci := 3) (v := .int (TI 11)) (C := RX4) (T := TX4) (N := 18) hx hb hts in_X4 hown hg.1 hP 1 rfl rfl 11 (Nat.le_of_ble_eq_true rfl) (hts _ q256) (fun _ h9 => h9) rfl dX1_state_184 ?_
                    exact xret_i hx hb hr hlocks (Nat.le_of_ble_eq_true rfl) (Nat.le_of_ble_eq_true rfl) hS.2.2 dX1_state_187 (fun t ht => ⟨⟨(TI 11), (TI 11), rfl, ⟨rfl, (by exact Eq.symm (Eq.trans (if_neg c1) (Eq.trans (if_neg c2) (Eq.trans (if_neg c3) (Eq.trans (if_neg c4) (Eq.trans (if_neg c5) (Eq.trans (if_neg c6) (Eq.trans (if_neg c7) (Eq.trans (if_neg c12) (Eq.trans (if_pos c13) (rfl)))))))))))⟩, by rw [ht]; exact hP, hD⟩, hS.F ht⟩)
                  · by_cases c14 : x = 9
                    · refine lv_tableIn (off := 164) (tgt := 188) hx hb dX1_state_24 (by rw [c14]; decide) (by rw [c14]; decide) (by rw [c14]; decide) (by decide) ?_
                      refine lv_aload_n hx hb dX1_state_188 rfl (lv_at hl 0 rfl) ?_
                      refine va_get (D := D) (ci := 0) (v := .ref (r 7)) (C := RX1) (T := TX1) (N := 29) hx hb hts in_X1 hown hg.1 hP 0 rfl rfl 7 (Nat.le_of_ble_eq_true rfl) (hts _ q371) (fun _ h9 => h9) rfl dX1_state_189 ?_
                      refine va_get (D := D) (ci := 3) (v := .int (TI 12)) (C := RX4) (T := TX4) (N := 18) hx hb hts in_X4 hown hg.1 hP 1 rfl rfl 12 (Nat.le_of_ble_eq_true rfl) (hts _ q258) (fun _ h9 => h9) rfl dX1_state_192 ?_
                      exact xret_i hx hb hr hlocks (Nat.le_of_ble_eq_true rfl) (Nat.le_of_ble_eq_true rfl) hS.2.2 dX1_state_195 (fun t ht => ⟨⟨(TI 12), (TI 12), rfl, ⟨rfl, (by exact Eq.symm (Eq.trans (if_neg c1) (Eq.trans (if_neg c2) (Eq.trans (if_neg c3) (Eq.trans (if_neg c4) (Eq.trans (if_neg c5) (Eq.trans (if_neg c6) (Eq.trans (if_neg c7) (Eq.trans (if_neg c12) (Eq.trans (if_neg c13) (Eq.trans (if_pos c14) (rfl))))))))))))⟩, by rw [ht]; exact hP, hD⟩, hS.F ht⟩)
                    · by_cases c15 : x = 10
                      · refine lv_tableIn (off := 172) (tgt := 196) hx hb dX1_state_24 (by rw [c15]; decide) (by rw [c15]; decide) (by rw [c15]; decide) (by decide) ?_
                        refine lv_aload_n hx hb dX1_state_196 rfl (lv_at hl 0 rfl) ?_
                        refine va_get (D := D) (ci := 0) (v := .ref (r 7)) (C := RX1) (T := TX1) (N := 29) hx hb hts in_X1 hown hg.1 hP 0 rfl rfl 7 (Nat.le_of_ble_eq_true rfl) (hts _ q371) (fun _ h9 => h9) rfl dX1_state_197 ?_
                        refine va_get (D := D) (ci := 3) (v := .int (TI 13)) (C := RX4) (T := TX4) (N := 18) hx hb hts in_X4 hown hg.1 hP 1 rfl rfl 13 (Nat.le_of_ble_eq_true rfl) (hts _ q260) (fun _ h9 => h9) rfl dX1_state_200 ?_
                        exact xret_i hx hb hr hlocks (Nat.le_of_ble_eq_true rfl) (Nat.le_of_ble_eq_true rfl) hS.2.2 dX1_state_203 (fun t ht => ⟨⟨(TI 13), (TI 13), rfl, ⟨rfl, (by exact Eq.symm (Eq.trans (if_neg c1) (Eq.trans (if_neg c2) (Eq.trans (if_neg c3) (Eq.trans (if_neg c4) (Eq.trans (if_neg c5) (Eq.trans (if_neg c6) (Eq.trans (if_neg c7) (Eq.trans (if_neg c12) (Eq.trans (if_neg c13) (Eq.trans (if_neg c14) (Eq.trans (if_pos c15) (rfl)))))))))))))⟩, by rw [ht]; exact hP, hD⟩, hS.F ht⟩)
                      · by_cases c16 : x = 11
                        · refine lv_tableIn (off := 180) (tgt := 204) hx hb dX1_state_24 (by rw [c16]; decide) (by rw [c16]; decide) (by rw [c16]; decide) (by decide) ?_
                          refine lv_aload_n hx hb dX1_state_204 rfl (lv_at hl 0 rfl) ?_
                          refine va_get (D := D) (ci := 0) (v := .ref (r 7)) (C := RX1) (T := TX1) (N := 29) hx hb hts in_X1 hown hg.1 hP 0 rfl rfl 7 (Nat.le_of_ble_eq_true rfl) (hts _ q371) (fun _ h9 => h9) rfl dX1_state_205 ?_
                          refine va_get (D := D) (ci := 3) (v := .int (TI 14)) (C := RX4) (T := TX4) (N := 18) hx hb hts in_X4 hown hg.1 hP 1 rfl rfl 14 (Nat.le_of_ble_eq_true rfl) (hts _ q262) (fun _ h9 => h9) rfl dX1_state_208 ?_
                          exact xret_i hx hb hr hlocks (Nat.le_of_ble_eq_true rfl) (Nat.le_of_ble_eq_true rfl) hS.2.2 dX1_state_211 (fun t ht => ⟨⟨(TI 14), (TI 14), rfl, ⟨rfl, (by exact Eq.symm (Eq.trans (if_neg c1) (Eq.trans (if_neg c2) (Eq.trans (if_neg c3) (Eq.trans (if_neg c4) (Eq.trans (if_neg c5) (Eq.trans (if_neg c6) (Eq.trans (if_neg c7) (Eq.trans (if_neg c12) (Eq.trans (if_neg c13) (Eq.trans (if_neg c14) (Eq.trans (if_neg c15) (Eq.trans (if_pos c16) (rfl))))))))))))))⟩, by rw [ht]; exact hP, hD⟩, hS.F ht⟩)
                        · by_cases c17 : x = 12
                          · refine lv_tableIn (off := 188) (tgt := 212) hx hb dX1_state_24 (by rw [c17]; decide) (by rw [c17]; decide) (by rw [c17]; decide) (by decide) ?_
                            refine lv_aload_n hx hb dX1_state_212 rfl (lv_at hl 0 rfl) ?_
                            refine va_get (D := D) (ci := 0) (v := .ref (r 7)) (C := RX1) (T := TX1) (N := 29) hx hb hts in_X1 hown hg.1 hP 0 rfl rfl 7 (Nat.le_of_ble_eq_true rfl) (hts _ q371) (fun _ h9 => h9) rfl dX1_state_213 ?_
                            refine va_get (D := D) (ci := 3) (v := .long (TL 16)) (C := RX4) (T := TX4) (N := 18) hx hb hts in_X4 hown hg.1 hP 1 rfl rfl 16 (Nat.le_of_ble_eq_true rfl) (hts _ q266) (fun _ h9 => h9) rfl dX1_state_216 ?_
                            refine lv_l2i hx hb dX1_state_219 rfl ?_
                            exact xret_i hx hb hr hlocks (Nat.le_of_ble_eq_true rfl) (Nat.le_of_ble_eq_true rfl) hS.2.2 dX1_state_220 (fun t ht => ⟨⟨((TL 16).toInt32), ((TL 16).toInt32), rfl, ⟨rfl, (by exact Eq.symm (Eq.trans (if_neg c1) (Eq.trans (if_neg c2) (Eq.trans (if_neg c3) (Eq.trans (if_neg c4) (Eq.trans (if_neg c5) (Eq.trans (if_neg c6) (Eq.trans (if_neg c7) (Eq.trans (if_neg c12) (Eq.trans (if_neg c13) (Eq.trans (if_neg c14) (Eq.trans (if_neg c15) (Eq.trans (if_neg c16) (Eq.trans (if_pos c17) (rfl)))))))))))))))⟩, by rw [ht]; exact hP, hD⟩, hS.F ht⟩)
                          · by_cases c18 : x = 13
                            · refine lv_tableIn (off := 197) (tgt := 221) hx hb dX1_state_24 (by rw [c18]; decide) (by rw [c18]; decide) (by rw [c18]; decide) (by decide) ?_
                              refine lv_aload_n hx hb dX1_state_221 rfl (lv_at hl 0 rfl) ?_
                              refine va_get (D := D) (ci := 0) (v := .ref (r 7)) (C := RX1) (T := TX1) (N := 29) hx hb hts in_X1 hown hg.1 hP 0 rfl rfl 7 (Nat.le_of_ble_eq_true rfl) (hts _ q371) (fun _ h9 => h9) rfl dX1_state_222 ?_
                              refine va_get (D := D) (ci := 3) (v := .int (TI 15)) (C := RX4) (T := TX4) (N := 18) hx hb hts in_X4 hown hg.1 hP 1 rfl rfl 15 (Nat.le_of_ble_eq_true rfl) (hts _ q264) (fun _ h9 => h9) rfl dX1_state_225 ?_
                              exact xret_i hx hb hr hlocks (Nat.le_of_ble_eq_true rfl) (Nat.le_of_ble_eq_true rfl) hS.2.2 dX1_state_228 (fun t ht => ⟨⟨(TI 15), (TI 15), rfl, ⟨rfl, (by exact Eq.symm (Eq.trans (if_neg c1) (Eq.trans (if_neg c2) (Eq.trans (if_neg c3) (Eq.trans (if_neg c4) (Eq.trans (if_neg c5) (Eq.trans (if_neg c6) (Eq.trans (if_neg c7) (Eq.trans (if_neg c12) (Eq.trans (if_neg c13) (Eq.trans (if_neg c14) (Eq.trans (if_neg c15) (Eq.trans (if_neg c16) (Eq.trans (if_neg c17) (Eq.trans (if_pos c18) (rfl))))))))))))))))⟩, by rw [ht]; exact hP, hD⟩, hS.F ht⟩)
                            · by_cases c19 : x = 14
                              · refine lv_tableIn (off := 205) (tgt := 229) hx hb dX1_state_24 (by rw [c19]; decide) (by rw [c19]; decide) (by rw [c19]; decide) (by decide) ?_
                                refine lv_aload_n hx hb dX1_state_229 rfl (lv_at hl 0 rfl) ?_
                                refine va_get (D := D) (ci := 0) (v := .ref (r 9)) (C := RX1) (T := TX1) (N := 29) hx hb hts in_X1 hown hg.1 hP 0 rfl rfl 9 (Nat.le_of_ble_eq_true rfl) (hts _ q373) (fun _ h9 => h9) rfl dX1_state_230 ?_
                                refine va_get (D := D) (ci := 4) (v := .int (J0 0)) (C := RX5) (T := TX5) (N := 3) hx hb hts in_X5 hown hg.1 hP 2 rfl rfl 0 (Nat.le_of_ble_eq_true rfl) (hts _ q315) (fun _ h9 => h9) rfl dX1_state_233 ?_
                                exact xret_i hx hb hr hlocks (Nat.le_of_ble_eq_true rfl) (Nat.le_of_ble_eq_true rfl) hS.2.2 dX1_state_236 (fun t ht => ⟨⟨(J0 0), (J0 0), rfl, ⟨rfl, (by exact Eq.symm (Eq.trans (if_neg c1) (Eq.trans (if_neg c2) (Eq.trans (if_neg c3) (Eq.trans (if_neg c4) (Eq.trans (if_neg c5) (Eq.trans (if_neg c6) (Eq.trans (if_neg c7) (Eq.trans (if_neg c12) (Eq.trans (if_neg c13) (Eq.trans (if_neg c14) (Eq.trans (if_neg c15) (Eq.trans (if_neg c16) (Eq.trans (if_neg c17) (Eq.trans (if_neg c18) (Eq.trans (if_pos c19) (rfl)))))))))))))))))⟩, by rw [ht]; exact hP, hD⟩, hS.F ht⟩)
                              · by_cases c20 : x = 15
                                · refine lv_tableIn (off := 213) (tgt := 237) hx hb dX1_state_24 (by rw [c20]; decide) (by rw [c20]; decide) (by rw [c20]; decide) (by decide) ?_
                                  refine lv_aload_n hx hb dX1_state_237 rfl (lv_at hl 0 rfl) ?_
                                  refine va_get (D := D) (ci := 0) (v := .ref (r 9)) (C := RX1) (T := TX1) (N := 29) hx hb hts in_X1 hown hg.1 hP 0 rfl rfl 9 (Nat.le_of_ble_eq_true rfl) (hts _ q373) (fun _ h9 => h9) rfl dX1_state_238 ?_
                                  refine va_get (D := D) (ci := 4) (v := .int (J0 1)) (C := RX5) (T := TX5) (N := 3) hx hb hts in_X5 hown hg.1 hP 2 rfl rfl 1 (Nat.le_of_ble_eq_true rfl) (hts _ q318) (fun _ h9 => h9) rfl dX1_state_241 ?_
                                  exact xret_i hx hb hr hlocks (Nat.le_of_ble_eq_true rfl) (Nat.le_of_ble_eq_true rfl) hS.2.2 dX1_state_244 (fun t ht => ⟨⟨(J0 1), (J0 1), rfl, ⟨rfl, (by exact Eq.symm (Eq.trans (if_neg c1) (Eq.trans (if_neg c2) (Eq.trans (if_neg c3) (Eq.trans (if_neg c4) (Eq.trans (if_neg c5) (Eq.trans (if_neg c6) (Eq.trans (if_neg c7) (Eq.trans (if_neg c12) (Eq.trans (if_neg c13) (Eq.trans (if_neg c14) (Eq.trans (if_neg c15) (Eq.trans (if_neg c16) (Eq.trans (if_neg c17) (Eq.trans (if_neg c18) (Eq.trans (if_neg c19) (Eq.trans (if_pos c20) (rfl))))))))))))))))))⟩, by rw [ht]; exact hP, hD⟩, hS.F ht⟩)
                                · by_cases c21 : x = 16
                                  · refine lv_tableIn (off := 221) (tgt := 245) hx hb dX1_state_24 (by rw [c21]; decide) (by rw [c21]; decide) (by rw [c21]; decide) (by decide) ?_
                                    refine lv_aload_n hx hb dX1_state_245 rfl (lv_at hl 0 rfl) ?_
                                    refine va_get (D := D) (ci := 0) (v := .ref (r 9)) (C := RX1) (T := TX1) (N := 29) hx hb hts in_X1 hown hg.1 hP 0 rfl rfl 9 (Nat.le_of_ble_eq_true rfl) (hts _ q373) (fun _ h9 => h9) rfl dX1_state_246 ?_
                                    refine va_get (D := D) (ci := 4) (v := .int (J0 2)) (C := RX5) (T := TX5) (N := 3) hx hb hts in_X5 hown hg.1 hP 2 rfl rfl 2 (Nat.le_of_ble_eq_true rfl) (hts _ q321) (fun _ h9 => h9) rfl dX1_state_249 ?_
                                    exact xret_i hx hb hr hlocks (Nat.le_of_ble_eq_true rfl) (Nat.le_of_ble_eq_true rfl) hS.2.2 dX1_state_252 (fun t ht => ⟨⟨(J0 2), (J0 2), rfl, ⟨rfl, (by exact Eq.symm (Eq.trans (if_neg c1) (Eq.trans (if_neg c2) (Eq.trans (if_neg c3) (Eq.trans (if_neg c4) (Eq.trans (if_neg c5) (Eq.trans (if_neg c6) (Eq.trans (if_neg c7) (Eq.trans (if_neg c12) (Eq.trans (if_neg c13) (Eq.trans (if_neg c14) (Eq.trans (if_neg c15) (Eq.trans (if_neg c16) (Eq.trans (if_neg c17) (Eq.trans (if_neg c18) (Eq.trans (if_neg c19) (Eq.trans (if_neg c20) (Eq.trans (if_pos c21) (rfl)))))))))))))))))))⟩, by rw [ht]; exact hP, hD⟩, hS.F ht⟩)
                                  · refine lv_tableOut (tgt := 253) hx hb dX1_state_24 (by have h0_ := lv_neT c1 (show (0 : Int32).toInt = 0 from by decide); have h1_ := lv_neT c2 (show (1 : Int32).toInt = 1 from by decide); have h2_ := lv_neT c3 (show (2 : Int32).toInt = 2 from by decide); have h3_ := lv_neT c4 (show (3 : Int32).toInt = 3 from by decide); have h4_ := lv_neT c5 (show (4 : Int32).toInt = 4 from by decide); have h5_ := lv_neT c6 (show (5 : Int32).toInt = 5 from by decide); have h6_ := lv_neT c7 (show (6 : Int32).toInt = 6 from by decide); have h7_ := lv_neT c12 (show (7 : Int32).toInt = 7 from by decide); have h8_ := lv_neT c13 (show (8 : Int32).toInt = 8 from by decide); have h9_ := lv_neT c14 (show (9 : Int32).toInt = 9 from by decide); have h10_ := lv_neT c15 (show (10 : Int32).toInt = 10 from by decide); have h11_ := lv_neT c16 (show (11 : Int32).toInt = 11 from by decide); have h12_ := lv_neT c17 (show (12 : Int32).toInt = 12 from by decide); have h13_ := lv_neT c18 (show (13 : Int32).toInt = 13 from by decide); have h14_ := lv_neT c19 (show (14 : Int32).toInt = 14 from by decide); have h15_ := lv_neT c20 (show (15 : Int32).toInt = 15 from by decide); have h16_ := lv_neT c21 (show (16 : Int32).toInt = 16 from by decide); omega) (by decide) ?_
                                    refine lv_iconst (v := (-1)) hx hb dX1_state_253 ci_m1 ?_
                                    exact xret_i hx hb hr hlocks (Nat.le_of_ble_eq_true rfl) (Nat.le_of_ble_eq_true rfl) hS.2.2 dX1_state_254 (fun t ht => ⟨⟨(-1), (-1), rfl, ⟨rfl, (by exact Eq.symm (Eq.trans (if_neg c1) (Eq.trans (if_neg c2) (Eq.trans (if_neg c3) (Eq.trans (if_neg c4) (Eq.trans (if_neg c5) (Eq.trans (if_neg c6) (Eq.trans (if_neg c7) (Eq.trans (if_neg c12) (Eq.trans (if_neg c13) (Eq.trans (if_neg c14) (Eq.trans (if_neg c15) (Eq.trans (if_neg c16) (Eq.trans (if_neg c17) (Eq.trans (if_neg c18) (Eq.trans (if_neg c19) (Eq.trans (if_neg c20) (Eq.trans (if_neg c21) (rfl)))))))))))))))))))⟩, by rw [ht]; exact hP, hD⟩, hS.F ht⟩)

def f_X1_stateN_j1 (u1 : Int32) : (Int32) :=
  if u1 = 0 then
    (-1)
  else
    0
def f_X1_stateN (x : Int32) : Int32 :=
  let u1 := f_X1_in x 0 16
  let v4 := f_X1_stateN_j1 u1
  v4
abbrev q_X1_stateN (D : va_G) (k : KK) (o : Nat) (r : Nat → Nat) (I : Nat → Int32) (L : Nat → Int64) (x : Int32) (A : Nat → Prop) : Array Value → State → Outcome → State → Prop := va_Qi (fun (r_ : Int32) (u : Int32) => r_ = u ∧ u = f_X1_stateN x) (bx D (fun u => [(o, eRM r .null I L)]) A) A
abbrev rm_X1_stateN : Room := { frames := 3, cells := 0, slots := 0, locals := 120 }
set_option maxHeartbeats 8000000 in
theorem m_X1_stateN (l : Launch) (D : va_G) (k : KK) (sz : Nat) (o : Nat) (r : Nat → Nat) (I : Nat → Int32) (L : Nat → Int64) (x : Int32)  : Met l yX1_state (ws_ yX1_state cX1_state 2 (some .int)) rm_X1_stateN (pcx D k [.ref o, .int x] sz [(o, eRM r .null I L)] (fun _ => True)) (q_X1_stateN D k o r I L x (va_A [(o, eRM r .null I L)] sz)) 0 0 (va_A [(o, eRM r .null I L)] sz) := by
  refine Met.start (Qc := q_X1_stateN D k o r I L x) (by decide) (Nat.le_of_ble_eq_true rfl) ?_
  intro p e s m below meth c A hx hb hr hlocks hml hown hin hts hg hP hD hA hAn hS hY hsz ls hl
  have hown : s.vm.findClass RX1 = some m.cls := hown
  have hl : lv_has ls 2 [(0, .ref o), (1, .int x)] := hl
  refine lv_aload_n hx hb dX1_state_0 rfl (lv_at hl 0 rfl) ?_
  refine va_get (D := D) (ci := 0) (v := .null) (C := RX1) (T := TX1) (N := 29) hx hb hts in_X1 hown hg.1 hP 0 rfl rfl 3 (Nat.le_of_ble_eq_true rfl) (hts _ q367) (fun _ h9 => h9) rfl dX1_state_1 ?_
  refine lv_ifnonnullN hx hb dX1_state_4 ?_
  refine lv_iload_n hx hb dX1_state_7 rfl (lv_at hl 1 rfl) ?_
  refine lv_iconst (v := 0) hx hb dX1_state_8 ci_0 ?_
  refine lv_bipush (v := 16) hx hb dX1_state_9 cb_16 ?_
  refine xc_i (wc := []) (wr := [(o, eRM r .null I L)]) hP hD hS hA [] [0] rfl rfl rfl (by decide) (xrS ⟨hx, hb, hml, hown, hts⟩ hg (m_X1_in l D k _ x 0 16) hP hD [] rfl rfl trivial q469 q470 q83 q471 xo_X1_in ⟨rfl, rfl⟩ ⟨Nat.le_of_ble_eq_true rfl, Nat.le_of_ble_eq_true rfl⟩ hl.1 (Nat.le_of_ble_eq_true rfl) dX1_state_11 ⟨Nat.le_of_ble_eq_true rfl, Nat.le_of_ble_eq_true rfl⟩ rfl) (fun u1 r_ H locs hw hP hD hS hk => ?_)
  obtain ⟨rfl, eu1, bu1⟩ := hw
  replace hP : va_P D vwCl [(o, eRM r .null I L)] H := hP.sub [0] rfl
  replace hD : va_D A [(o, eRM r .null I L)] := hD.sub [0] (by decide) rfl
  have Jn1 : ∀ (v4 : (Int32)) (H : Heap) (locs : List Loc) (ls : Array Slot), v4 = f_X1_stateN_j1 u1 → va_P D vwCl [(o, eRM r .null I L)] H → va_D A [(o, eRM r .null I L)] → va_S A s.heap H locs → lv_has ls 2 [(0, .ref o), (1, .int x)] → W p l e rm_X1_stateN s m ([.ref o, .int x] : List Value).toArray below meth c H locs 0 0 (MQ below (q_X1_stateN D k o r I L x A) ([.ref o, .int x] : List Value).toArray s 0 0 A) (F0 m 22 ls [.int v4]) := by
    intro v4 H locs ls ev4 hP hD hS hl
    exact xret_i hx hb hr hlocks (Nat.le_of_ble_eq_true rfl) (Nat.le_of_ble_eq_true rfl) hS.2.2 dX1_state_22 (fun t ht => ⟨⟨v4, v4, rfl, ⟨rfl, (by subst ev4; subst eu1; exact rfl)⟩, by rw [ht]; exact hP, hD⟩, hS.F ht⟩)
  refine lv_if_eq (tgt := 21) hx hb dX1_state_14 (by decide) (fun c5 => ?_) (fun c5 => ?_)
  · refine lv_iconst (v := (-1)) hx hb dX1_state_21 ci_m1 ?_
    exact Jn1 (-1) _ _ _ (by exact Eq.symm (Eq.trans (if_pos c5) (rfl))) hP hD hS (lv_sub hl [0, 1] rfl)
  · refine lv_iconst (v := 0) hx hb dX1_state_17 ci_0 ?_
    refine lv_goto (tgt := 22) hx hb dX1_state_18 (by decide) ?_
    exact Jn1 0 _ _ _ (by exact Eq.symm (Eq.trans (if_neg c5) (rfl))) hP hD hS (lv_sub hl [0, 1] rfl)

def f_X1_program_j1 (ra_ : Int32) (wt : Int32) (oi : Int32) (WI : Nat → Int32) (u1 : Int32) : (Int32) :=
  if u1 = 0 then
    1
  else
    let u11 := f_X1_settingsWhy ra_ wt oi WI
    u11
def f_X1_program (J0 : Nat → Int32) (ho : Int32) (ra_ : Int32) (wt : Int32) (oi : Int32) (WI : Nat → Int32) : Int32 × Int32 × Int32 × Int32 × Int32 × Int32 :=
  let u1 := f_X1_in ho 0 11
  let v6 := f_X1_program_j1 ra_ wt oi WI u1
  let u7 := f_X1_yes v6
  if u7.1 = 0 then
    (0, u7.2.1, u7.2.2, (J0 0), (J0 1), (J0 2))
  else
    let u9 := f_X1_put ra_ wt oi
    (1, u7.2.1, u7.2.2, u9.1, u9.2.1, u9.2.2)
abbrev q_X1_program (D : va_G) (k : KK) (o : Nat) (r : Nat → Nat) (I : Nat → Int32) (L : Nat → Int64) (pa : Nat → Option Nat) (pd : Nat → Nat) (hj : Nat) (J0 : Nat → Int32) (ho : Int32) (ra_ : Int32) (wt : Int32) (oi : Int32) (wa : Nat) (wd : WAd) (WI : Nat → Int32) (pr : Nat → Int32) (SI : Nat → Nat → Int32) (OI : Nat → Nat → Int32) (tn : Nat → Nat → Int32) (nS : Nat) (nO : Nat) (A : Nat → Prop) : Array Value → State → Outcome → State → Prop := va_Qi (fun (r_ : Int32) (u : Int32 × Int32 × Int32 × Int32 × Int32 × Int32) => r_ = u.1 ∧ u = f_X1_program J0 ho ra_ wt oi WI ∧ (r_ = 0 ∨ r_ = 1)) (bx D (fun u => [(o, eRM r (.ref wa) (upd (upd I 4 u.2.1) 6 u.2.2.1) L), ((r 11), aSE k 12 pa), ((pd hj), eSE (upd (upd (upd J0 0 u.2.2.2.1) 1 u.2.2.2.2.1) 2 u.2.2.2.2.2))]) A) A
abbrev rm_X1_program : Room := { frames := 4, cells := 0, slots := 0, locals := 160 }
theorem xo_X1_program : xok yX1_program 4 := by unfold xok; decide +kernel
set_option maxHeartbeats 8000000 in
theorem m_X1_program (l : Launch) (D : va_G) (k : KK) (sz : Nat) (o : Nat) (r : Nat → Nat) (I : Nat → Int32) (L : Nat → Int64) (pa : Nat → Option Nat) (pd : Nat → Nat) (hj : Nat) (J0 : Nat → Int32) (ho : Int32) (ra_ : Int32) (wt : Int32) (oi : Int32) (wa : Nat) (wd : WAd) (WI : Nat → Int32) (pr : Nat → Int32) (SI : Nat → Nat → Int32) (OI : Nat → Nat → Int32) (tn : Nat → Nat → Int32) (nS : Nat) (nO : Nat) (hnS : WI 3 = nI nS) (hnO : WI 4 = nI nO) (hS2 : 2 ≤ nS) (hS5 : nS ≤ 5) (hO4 : nO ≤ 4) (hho : ho = nI hj) (hh12 : hj < 12) (hpa : pa hj = some (pd hj)) : Met l yX1_program (ws_ yX1_program cX1_program 6 (some .boolean)) rm_X1_program (pcx D k [.ref o, .int ho, .int ra_, .int wt, .int oi] sz [(o, eRM r (.ref wa) I L), ((r 11), aSE k 12 pa), ((pd hj), eSE J0)] (wkY D k wa wd WI pr SI OI tn nS nO (va_A [(o, eRM r (.ref wa) I L), ((r 11), aSE k 12 pa), ((pd hj), eSE J0)] sz))) (q_X1_program D k o r I L pa pd hj J0 ho ra_ wt oi wa wd WI pr SI OI tn nS nO (va_A [(o, eRM r (.ref wa) I L), ((r 11), aSE k 12 pa), ((pd hj), eSE J0)] sz)) 0 0 (va_A [(o, eRM r (.ref wa) I L), ((r 11), aSE k 12 pa), ((pd hj), eSE J0)] sz) := by
  refine Met.start (Qc := q_X1_program D k o r I L pa pd hj J0 ho ra_ wt oi wa wd WI pr SI OI tn nS nO) (by decide) (Nat.le_of_ble_eq_true rfl) ?_
  intro p e s m below meth c A hx hb hr hlocks hml hown hin hts hg hP hD hA hAn hS hY hsz ls hl
  have hown : s.vm.findClass RX1 = some m.cls := hown
  have hl : lv_has ls 6 [(0, .ref o), (1, .int ho), (2, .int ra_), (3, .int wt), (4, .int oi)] := hl
  have hW := wkY.mono hY hAn
  refine lv_iload_n hx hb dX1_program_0 rfl (lv_at hl 1 rfl) ?_
  refine lv_iconst (v := 0) hx hb dX1_program_1 ci_0 ?_
  refine lv_bipush (v := 11) hx hb dX1_program_2 cb_11 ?_
  refine xc_i (wc := []) (wr := [(o, eRM r (.ref wa) I L), ((r 11), aSE k 12 pa), ((pd hj), eSE J0)]) hP hD hS hA [] [0, 1, 2] rfl rfl rfl (by decide) (xrS ⟨hx, hb, hml, hown, hts⟩ hg (m_X1_in l D k _ ho 0 11) hP hD [] rfl rfl trivial q469 q470 q83 q471 xo_X1_in ⟨rfl, rfl⟩ ⟨Nat.le_of_ble_eq_true rfl, Nat.le_of_ble_eq_true rfl⟩ hl.1 (Nat.le_of_ble_eq_true rfl) dX1_program_4 ⟨Nat.le_of_ble_eq_true rfl, Nat.le_of_ble_eq_true rfl⟩ rfl) (fun u1 r_ H locs hw hP hD hS hk => ?_)
  obtain ⟨rfl, eu1, bu1⟩ := hw
  replace hP : va_P D vwCl [(o, eRM r (.ref wa) I L), ((r 11), aSE k 12 pa), ((pd hj), eSE J0)] H := hP.sub [0, 1, 2] rfl
  replace hD : va_D A [(o, eRM r (.ref wa) I L), ((r 11), aSE k 12 pa), ((pd hj), eSE J0)] := hD.sub [0, 1, 2] (by decide) rfl
  have Jn1 : ∀ (v6 : (Int32)) (H : Heap) (locs : List Loc) (ls : Array Slot), v6 = f_X1_program_j1 ra_ wt oi WI u1 → va_P D vwCl [(o, eRM r (.ref wa) I L), ((r 11), aSE k 12 pa), ((pd hj), eSE J0)] H → va_D A [(o, eRM r (.ref wa) I L), ((r 11), aSE k 12 pa), ((pd hj), eSE J0)] → va_S A s.heap H locs → lv_has ls 6 [(0, .ref o), (1, .int ho), (2, .int ra_), (3, .int wt), (4, .int oi)] → W p l e rm_X1_program s m ([.ref o, .int ho, .int ra_, .int wt, .int oi] : List Value).toArray below meth c H locs 0 0 (MQ below (q_X1_program D k o r I L pa pd hj J0 ho ra_ wt oi wa wd WI pr SI OI tn nS nO A) ([.ref o, .int ho, .int ra_, .int wt, .int oi] : List Value).toArray s 0 0 A) (F0 m 22 ls [.int v6]) := by
    intro v6 H locs ls ev6 hP hD hS hl
    refine lv_istore (lv' := [(5, .int v6), (0, .ref o), (1, .int ho), (2, .int ra_), (3, .int wt), (4, .int oi)]) hx hb dX1_program_22 hl (Nat.le_of_ble_eq_true rfl) rfl (fun ls hl => ?_)
    refine lv_aload_n hx hb dX1_program_24 rfl (lv_at hl 1 rfl) ?_
    refine lv_iload hx hb dX1_program_25 (lv_at hl 0 rfl) ?_
    refine xc_i (wc := [(o, eRM r (.ref wa) I L)]) (wr := [((r 11), aSE k 12 pa), ((pd hj), eSE J0)]) hP hD hS hA [0] [1, 2] rfl rfl rfl (by decide) (xrV ⟨hx, hb, hml, hown, hts⟩ hg (m_X1_yes l D k _ o r (.ref wa) I L v6) hP hD [0] rfl rfl trivial (ci := 0) (q0 := 0) rfl rfl rfl q878 q880 qs21 q83 q881 xo_X1_yes ⟨rfl, rfl⟩ ⟨Nat.le_of_ble_eq_true rfl, Nat.le_of_ble_eq_true rfl⟩ hl.1 (Nat.le_of_ble_eq_true rfl) dX1_program_27 ⟨Nat.le_of_ble_eq_true rfl, Nat.le_of_ble_eq_true rfl⟩ rfl) (fun r_ u7 H locs hw hP hD hS hk => ?_)
    obtain ⟨rfl, eu7, bu7⟩ := hw
    replace hP : va_P D vwCl [(o, eRM r (.ref wa) (upd (upd I 4 u7.2.1) 6 u7.2.2) L), ((r 11), aSE k 12 pa), ((pd hj), eSE J0)] H := hP.sub [2, 0, 1] rfl
    replace hD : va_D A [(o, eRM r (.ref wa) (upd (upd I 4 u7.2.1) 6 u7.2.2) L), ((r 11), aSE k 12 pa), ((pd hj), eSE J0)] := hD.sub [2, 0, 1] (by decide) rfl
    refine lv_if_ne (tgt := 35) hx hb dX1_program_30 (by decide) (fun c8 => ?_) (fun c8 => ?_)
    · refine lv_aload_n hx hb dX1_program_35 rfl (lv_at hl 1 rfl) ?_
      refine va_get (D := D) (ci := 0) (v := .ref (r 11)) (C := RX1) (T := TX1) (N := 29) hx hb hts in_X1 hown hg.1 hP 0 rfl rfl 11 (Nat.le_of_ble_eq_true rfl) (hts _ q375) (fun _ h9 => h9) rfl dX1_program_36 ?_
      refine lv_iload_n hx hb dX1_program_39 rfl (lv_at hl 2 rfl) ?_
      refine xa_aald hx hb hg hP 1 4 rfl rfl hho (by omega) (by omega) (b := (pd hj)) hpa dX1_program_40 ?_
      refine lv_iload_n hx hb dX1_program_41 rfl (lv_at hl 3 rfl) ?_
      refine lv_iload_n hx hb dX1_program_42 rfl (lv_at hl 4 rfl) ?_
      refine lv_iload hx hb dX1_program_43 (lv_at hl 5 rfl) ?_
      refine xc_v (wc := [((pd hj), eSE J0)]) (wr := [(o, eRM r (.ref wa) (upd (upd I 4 u7.2.1) 6 u7.2.2) L), ((r 11), aSE k 12 pa)]) hP hD hS hA [2] [0, 1] rfl rfl rfl (by decide) (xrS ⟨hx, hb, hml, hown, hts⟩ hg (m_X1_put l D k _ (pd hj) J0 ra_ wt oi) hP hD [2] rfl rfl trivial q882 q883 q83 q884 xo_X1_put ⟨rfl, rfl⟩ ⟨Nat.le_of_ble_eq_true rfl, Nat.le_of_ble_eq_true rfl⟩ hl.1 (Nat.le_of_ble_eq_true rfl) dX1_program_45 ⟨Nat.le_of_ble_eq_true rfl, Nat.le_of_ble_eq_true rfl⟩ rfl) (fun u9 H locs hw hP hD hS hk => ?_)
      have eu9 := hw
      replace hP : va_P D vwCl [(o, eRM r (.ref wa) (upd (upd I 4 u7.2.1) 6 u7.2.2) L), ((r 11), aSE k 12 pa), ((pd hj), eSE (upd (upd (upd J0 0 u9.1) 1 u9.2.1) 2 u9.2.2))] H := hP.sub [0, 1, 2] rfl
      replace hD : va_D A [(o, eRM r (.ref wa) (upd (upd I 4 u7.2.1) 6 u7.2.2) L), ((r 11), aSE k 12 pa), ((pd hj), eSE (upd (upd (upd J0 0 u9.1) 1 u9.2.1) 2 u9.2.2))] := hD.sub [0, 1, 2] (by decide) rfl
      refine lv_iconst (v := 1) hx hb dX1_program_48 ci_1 ?_
      exact xret_z hx hb hr hlocks (Nat.le_of_ble_eq_true rfl) (Nat.le_of_ble_eq_true rfl) hS.2.2 dX1_program_49 (Or.inr rfl) (fun t ht => ⟨⟨1, (1, u7.2.1, u7.2.2, u9.1, u9.2.1, u9.2.2), rfl, ⟨rfl, (by subst eu9; subst eu7; subst ev6; subst eu1; exact Eq.symm (Eq.trans (if_neg c8) (rfl))), (Or.inr rfl)⟩, by rw [ht]; exact hP, hD⟩, hS.F ht⟩)
    · refine lv_iconst (v := 0) hx hb dX1_program_33 ci_0 ?_
      exact xret_z hx hb hr hlocks (Nat.le_of_ble_eq_true rfl) (Nat.le_of_ble_eq_true rfl) hS.2.2 dX1_program_34 (Or.inl rfl) (fun t ht => ⟨⟨0, (0, u7.2.1, u7.2.2, (J0 0), (J0 1), (J0 2)), rfl, ⟨rfl, (by subst eu7; subst ev6; subst eu1; exact Eq.symm (Eq.trans (if_pos c8) (rfl))), (Or.inl rfl)⟩, by rw [ht]; exact hP, hD⟩, hS.F ht⟩)
  refine lv_if_eq (tgt := 21) hx hb dX1_program_7 (by decide) (fun c10 => ?_) (fun c10 => ?_)
  · refine lv_iconst (v := 1) hx hb dX1_program_21 ci_1 ?_
    exact Jn1 1 _ _ _ (by exact Eq.symm (Eq.trans (if_pos c10) (rfl))) hP hD hS (lv_sub hl [0, 1, 2, 3, 4] rfl)
  · refine lv_aload_n hx hb dX1_program_10 rfl (lv_at hl 0 rfl) ?_
    refine lv_iload_n hx hb dX1_program_11 rfl (lv_at hl 2 rfl) ?_
    refine lv_iload_n hx hb dX1_program_12 rfl (lv_at hl 3 rfl) ?_
    refine lv_iload hx hb dX1_program_13 (lv_at hl 4 rfl) ?_
    refine xc_i (wc := [(o, eRM r (.ref wa) I L)]) (wr := [((r 11), aSE k 12 pa), ((pd hj), eSE J0)]) hP hD hS hA [0] [1, 2] rfl rfl rfl (by decide) (xrV ⟨hx, hb, hml, hown, hts⟩ hg (m_X1_settingsWhy l D k _ o r I L ra_ wt oi wa wd WI pr SI OI tn nS nO hnS hnO hS2 hS5 hO4) hP hD [0] rfl rfl (wkcall hW hS (va_free (wc := [(o, eRM r (.ref wa) I L)]) hD hS hA [0] rfl)) (ci := 0) (q0 := 0) rfl rfl rfl q874 q876 qs20 q83 q877 xo_X1_settingsWhy ⟨rfl, rfl⟩ ⟨Nat.le_of_ble_eq_true rfl, Nat.le_of_ble_eq_true rfl⟩ hl.1 (Nat.le_of_ble_eq_true rfl) dX1_program_15 ⟨Nat.le_of_ble_eq_true rfl, Nat.le_of_ble_eq_true rfl⟩ rfl) (fun u11 r_ H locs hw hP hD hS hk => ?_)
    obtain ⟨rfl, eu11⟩ := hw
    replace hP : va_P D vwCl [(o, eRM r (.ref wa) I L), ((r 11), aSE k 12 pa), ((pd hj), eSE J0)] H := hP.sub [2, 0, 1] rfl
    replace hD : va_D A [(o, eRM r (.ref wa) I L), ((r 11), aSE k 12 pa), ((pd hj), eSE J0)] := hD.sub [2, 0, 1] (by decide) rfl
    refine lv_goto (tgt := 22) hx hb dX1_program_18 (by decide) ?_
    exact Jn1 u11 _ _ _ (by subst eu11; exact Eq.symm (Eq.trans (if_neg c10) (rfl))) hP hD hS (lv_sub hl [0, 1, 2, 3, 4] rfl)

def f_X1_programX (ho : Int32) : Int32 × Int32 × Int32 :=
  let u1 := f_X1_in ho 0 11
  let u2 := f_X1_yes 1
  (0, u2.2.1, u2.2.2)
abbrev q_X1_programX (D : va_G) (k : KK) (o : Nat) (r : Nat → Nat) (I : Nat → Int32) (L : Nat → Int64) (w : Value) (ho : Int32) (ra_ : Int32) (wt : Int32) (oi : Int32) (A : Nat → Prop) : Array Value → State → Outcome → State → Prop := va_Qi (fun (r_ : Int32) (u : Int32 × Int32 × Int32) => r_ = u.1 ∧ u = f_X1_programX ho ∧ (r_ = 0 ∨ r_ = 1)) (bx D (fun u => [(o, eRM r w (upd (upd I 4 u.2.1) 6 u.2.2) L)]) A) A
abbrev rm_X1_programX : Room := { frames := 4, cells := 0, slots := 0, locals := 160 }
set_option maxHeartbeats 8000000 in
theorem m_X1_programX (l : Launch) (D : va_G) (k : KK) (sz : Nat) (o : Nat) (r : Nat → Nat) (I : Nat → Int32) (L : Nat → Int64) (w : Value) (ho : Int32) (ra_ : Int32) (wt : Int32) (oi : Int32) (hno : f_X1_in ho 0 11 = 0) : Met l yX1_program (ws_ yX1_program cX1_program 6 (some .boolean)) rm_X1_programX (pcx D k [.ref o, .int ho, .int ra_, .int wt, .int oi] sz [(o, eRM r w I L)] (fun _ => True)) (q_X1_programX D k o r I L w ho ra_ wt oi (va_A [(o, eRM r w I L)] sz)) 0 0 (va_A [(o, eRM r w I L)] sz) := by
  refine Met.start (Qc := q_X1_programX D k o r I L w ho ra_ wt oi) (by decide) (Nat.le_of_ble_eq_true rfl) ?_
  intro p e s m below meth c A hx hb hr hlocks hml hown hin hts hg hP hD hA hAn hS hY hsz ls hl
  have hown : s.vm.findClass RX1 = some m.cls := hown
  have hl : lv_has ls 6 [(0, .ref o), (1, .int ho), (2, .int ra_), (3, .int wt), (4, .int oi)] := hl
  refine lv_iload_n hx hb dX1_program_0 rfl (lv_at hl 1 rfl) ?_
  refine lv_iconst (v := 0) hx hb dX1_program_1 ci_0 ?_
  refine lv_bipush (v := 11) hx hb dX1_program_2 cb_11 ?_
  refine xc_i (wc := []) (wr := [(o, eRM r w I L)]) hP hD hS hA [] [0] rfl rfl rfl (by decide) (xrS ⟨hx, hb, hml, hown, hts⟩ hg (m_X1_in l D k _ ho 0 11) hP hD [] rfl rfl trivial q469 q470 q83 q471 xo_X1_in ⟨rfl, rfl⟩ ⟨Nat.le_of_ble_eq_true rfl, Nat.le_of_ble_eq_true rfl⟩ hl.1 (Nat.le_of_ble_eq_true rfl) dX1_program_4 ⟨Nat.le_of_ble_eq_true rfl, Nat.le_of_ble_eq_true rfl⟩ rfl) (fun u1 r_ H locs hw hP hD hS hk => ?_)
  obtain ⟨rfl, eu1, bu1⟩ := hw
  replace hP : va_P D vwCl [(o, eRM r w I L)] H := hP.sub [0] rfl
  replace hD : va_D A [(o, eRM r w I L)] := hD.sub [0] (by decide) rfl
  refine lv_if_eq (tgt := 21) hx hb dX1_program_7 (by decide) (fun _ => ?_) (fun c => absurd (eu1.trans hno) c)
  refine lv_iconst (v := 1) hx hb dX1_program_21 ci_1 ?_
  refine lv_istore (lv' := [(5, .int 1), (0, .ref o), (1, .int ho), (2, .int ra_), (3, .int wt), (4, .int oi)]) hx hb dX1_program_22 hl (Nat.le_of_ble_eq_true rfl) rfl (fun ls hl => ?_)
  refine lv_aload_n hx hb dX1_program_24 rfl (lv_at hl 1 rfl) ?_
  refine lv_iload hx hb dX1_program_25 (lv_at hl 0 rfl) ?_
  refine xc_i (wc := [(o, eRM r w I L)]) (wr := []) hP hD hS hA [0] [] rfl rfl rfl (by decide) (xrV ⟨hx, hb, hml, hown, hts⟩ hg (m_X1_yes l D k _ o r w I L 1) hP hD [0] rfl rfl trivial (ci := 0) (q0 := 0) rfl rfl rfl q878 q880 qs21 q83 q881 xo_X1_yes ⟨rfl, rfl⟩ ⟨Nat.le_of_ble_eq_true rfl, Nat.le_of_ble_eq_true rfl⟩ hl.1 (Nat.le_of_ble_eq_true rfl) dX1_program_27 ⟨Nat.le_of_ble_eq_true rfl, Nat.le_of_ble_eq_true rfl⟩ rfl) (fun r_ u2 H locs hw hP hD hS hk => ?_)
  obtain ⟨rfl, eu2, bu2⟩ := hw
  replace hP : va_P D vwCl [(o, eRM r w (upd (upd I 4 u2.2.1) 6 u2.2.2) L)] H := hP.sub [0] rfl
  replace hD : va_D A [(o, eRM r w (upd (upd I 4 u2.2.1) 6 u2.2.2) L)] := hD.sub [0] (by decide) rfl
  refine lv_if_ne (tgt := 35) hx hb dX1_program_30 (by decide) (fun c => absurd (by rw [eu2]; decide) c) (fun _ => ?_)
  refine lv_iconst (v := 0) hx hb dX1_program_33 ci_0 ?_
  exact xret_z hx hb hr hlocks (Nat.le_of_ble_eq_true rfl) (Nat.le_of_ble_eq_true rfl) hS.2.2 dX1_program_34 (Or.inl rfl) (fun t ht => ⟨⟨0, (0, u2.2.1, u2.2.2), rfl, ⟨rfl, (by subst eu2; subst eu1; exact rfl), (Or.inl rfl)⟩, by rw [ht]; exact hP, hD⟩, hS.F ht⟩)

def f_X1_programN_j1 (u1 : Int32) : (Int32) :=
  if u1 = 0 then
    1
  else
    let u9 := f_X1_settingsWhyN
    u9
def f_X1_programN (ho : Int32) : Int32 × Int32 × Int32 :=
  let u1 := f_X1_in ho 0 11
  let v6 := f_X1_programN_j1 u1
  let u7 := f_X1_yes v6
  (0, u7.2.1, u7.2.2)
abbrev q_X1_programN (D : va_G) (k : KK) (o : Nat) (r : Nat → Nat) (I : Nat → Int32) (L : Nat → Int64) (ho : Int32) (ra_ : Int32) (wt : Int32) (oi : Int32) (A : Nat → Prop) : Array Value → State → Outcome → State → Prop := va_Qi (fun (r_ : Int32) (u : Int32 × Int32 × Int32) => r_ = u.1 ∧ u = f_X1_programN ho ∧ (r_ = 0 ∨ r_ = 1)) (bx D (fun u => [(o, eRM r .null (upd (upd I 4 u.2.1) 6 u.2.2) L)]) A) A
abbrev rm_X1_programN : Room := { frames := 4, cells := 0, slots := 0, locals := 160 }
set_option maxHeartbeats 8000000 in
theorem m_X1_programN (l : Launch) (D : va_G) (k : KK) (sz : Nat) (o : Nat) (r : Nat → Nat) (I : Nat → Int32) (L : Nat → Int64) (ho : Int32) (ra_ : Int32) (wt : Int32) (oi : Int32)  : Met l yX1_program (ws_ yX1_program cX1_program 6 (some .boolean)) rm_X1_programN (pcx D k [.ref o, .int ho, .int ra_, .int wt, .int oi] sz [(o, eRM r .null I L)] (fun _ => True)) (q_X1_programN D k o r I L ho ra_ wt oi (va_A [(o, eRM r .null I L)] sz)) 0 0 (va_A [(o, eRM r .null I L)] sz) := by
  refine Met.start (Qc := q_X1_programN D k o r I L ho ra_ wt oi) (by decide) (Nat.le_of_ble_eq_true rfl) ?_
  intro p e s m below meth c A hx hb hr hlocks hml hown hin hts hg hP hD hA hAn hS hY hsz ls hl
  have hown : s.vm.findClass RX1 = some m.cls := hown
  have hl : lv_has ls 6 [(0, .ref o), (1, .int ho), (2, .int ra_), (3, .int wt), (4, .int oi)] := hl
  refine lv_iload_n hx hb dX1_program_0 rfl (lv_at hl 1 rfl) ?_
  refine lv_iconst (v := 0) hx hb dX1_program_1 ci_0 ?_
  refine lv_bipush (v := 11) hx hb dX1_program_2 cb_11 ?_
  refine xc_i (wc := []) (wr := [(o, eRM r .null I L)]) hP hD hS hA [] [0] rfl rfl rfl (by decide) (xrS ⟨hx, hb, hml, hown, hts⟩ hg (m_X1_in l D k _ ho 0 11) hP hD [] rfl rfl trivial q469 q470 q83 q471 xo_X1_in ⟨rfl, rfl⟩ ⟨Nat.le_of_ble_eq_true rfl, Nat.le_of_ble_eq_true rfl⟩ hl.1 (Nat.le_of_ble_eq_true rfl) dX1_program_4 ⟨Nat.le_of_ble_eq_true rfl, Nat.le_of_ble_eq_true rfl⟩ rfl) (fun u1 r_ H locs hw hP hD hS hk => ?_)
  obtain ⟨rfl, eu1, bu1⟩ := hw
  replace hP : va_P D vwCl [(o, eRM r .null I L)] H := hP.sub [0] rfl
  replace hD : va_D A [(o, eRM r .null I L)] := hD.sub [0] (by decide) rfl
  have Jn1 : ∀ (v6 : (Int32)) (H : Heap) (locs : List Loc) (ls : Array Slot), v6 = f_X1_programN_j1 u1 → va_P D vwCl [(o, eRM r .null I L)] H → va_D A [(o, eRM r .null I L)] → va_S A s.heap H locs → lv_has ls 6 [(0, .ref o), (1, .int ho), (2, .int ra_), (3, .int wt), (4, .int oi)] → W p l e rm_X1_programN s m ([.ref o, .int ho, .int ra_, .int wt, .int oi] : List Value).toArray below meth c H locs 0 0 (MQ below (q_X1_programN D k o r I L ho ra_ wt oi A) ([.ref o, .int ho, .int ra_, .int wt, .int oi] : List Value).toArray s 0 0 A) (F0 m 22 ls [.int v6]) := by
    intro v6 H locs ls ev6 hP hD hS hl
    refine lv_istore (lv' := [(5, .int v6), (0, .ref o), (1, .int ho), (2, .int ra_), (3, .int wt), (4, .int oi)]) hx hb dX1_program_22 hl (Nat.le_of_ble_eq_true rfl) rfl (fun ls hl => ?_)
    refine lv_aload_n hx hb dX1_program_24 rfl (lv_at hl 1 rfl) ?_
    refine lv_iload hx hb dX1_program_25 (lv_at hl 0 rfl) ?_
    refine xc_i (wc := [(o, eRM r .null I L)]) (wr := []) hP hD hS hA [0] [] rfl rfl rfl (by decide) (xrV ⟨hx, hb, hml, hown, hts⟩ hg (m_X1_yes l D k _ o r .null I L v6) hP hD [0] rfl rfl trivial (ci := 0) (q0 := 0) rfl rfl rfl q878 q880 qs21 q83 q881 xo_X1_yes ⟨rfl, rfl⟩ ⟨Nat.le_of_ble_eq_true rfl, Nat.le_of_ble_eq_true rfl⟩ hl.1 (Nat.le_of_ble_eq_true rfl) dX1_program_27 ⟨Nat.le_of_ble_eq_true rfl, Nat.le_of_ble_eq_true rfl⟩ rfl) (fun r_ u7 H locs hw hP hD hS hk => ?_)
    obtain ⟨rfl, eu7, bu7⟩ := hw
    replace hP : va_P D vwCl [(o, eRM r .null (upd (upd I 4 u7.2.1) 6 u7.2.2) L)] H := hP.sub [0] rfl
    replace hD : va_D A [(o, eRM r .null (upd (upd I 4 u7.2.1) 6 u7.2.2) L)] := hD.sub [0] (by decide) rfl
    refine lv_if_ne (tgt := 35) hx hb dX1_program_30 (by decide) (fun c => absurd (by rw [eu7, ev6]; unfold f_X1_programN_j1; split <;> rfl) c) (fun _ => ?_)
    refine lv_iconst (v := 0) hx hb dX1_program_33 ci_0 ?_
    exact xret_z hx hb hr hlocks (Nat.le_of_ble_eq_true rfl) (Nat.le_of_ble_eq_true rfl) hS.2.2 dX1_program_34 (Or.inl rfl) (fun t ht => ⟨⟨0, (0, u7.2.1, u7.2.2), rfl, ⟨rfl, (by subst eu7; subst ev6; subst eu1; exact rfl), (Or.inl rfl)⟩, by rw [ht]; exact hP, hD⟩, hS.F ht⟩)
  refine lv_if_eq (tgt := 21) hx hb dX1_program_7 (by decide) (fun c8 => ?_) (fun c8 => ?_)
  · refine lv_iconst (v := 1) hx hb dX1_program_21 ci_1 ?_
    exact Jn1 1 _ _ _ (by exact Eq.symm (Eq.trans (if_pos c8) (rfl))) hP hD hS (lv_sub hl [0, 1, 2, 3, 4] rfl)
  · refine lv_aload_n hx hb dX1_program_10 rfl (lv_at hl 0 rfl) ?_
    refine lv_iload_n hx hb dX1_program_11 rfl (lv_at hl 2 rfl) ?_
    refine lv_iload_n hx hb dX1_program_12 rfl (lv_at hl 3 rfl) ?_
    refine lv_iload hx hb dX1_program_13 (lv_at hl 4 rfl) ?_
    refine xc_i (wc := [(o, eRM r .null I L)]) (wr := []) hP hD hS hA [0] [] rfl rfl rfl (by decide) (xrV ⟨hx, hb, hml, hown, hts⟩ hg (m_X1_settingsWhyN l D k _ o r I L ra_ wt oi) hP hD [0] rfl rfl trivial (ci := 0) (q0 := 0) rfl rfl rfl q874 q876 qs20 q83 q877 xo_X1_settingsWhy ⟨rfl, rfl⟩ ⟨Nat.le_of_ble_eq_true rfl, Nat.le_of_ble_eq_true rfl⟩ hl.1 (Nat.le_of_ble_eq_true rfl) dX1_program_15 ⟨Nat.le_of_ble_eq_true rfl, Nat.le_of_ble_eq_true rfl⟩ rfl) (fun u9 r_ H locs hw hP hD hS hk => ?_)
    obtain ⟨rfl, eu9⟩ := hw
    replace hP : va_P D vwCl [(o, eRM r .null I L)] H := hP.sub [0] rfl
    replace hD : va_D A [(o, eRM r .null I L)] := hD.sub [0] (by decide) rfl
    refine lv_goto (tgt := 22) hx hb dX1_program_18 (by decide) ?_
    exact Jn1 u9 _ _ _ (by subst eu9; exact Eq.symm (Eq.trans (if_neg c8) (rfl))) hP hD hS (lv_sub hl [0, 1, 2, 3, 4] rfl)

def f_X1_isLook_j1 (wh : Int32) (WI : Nat → Int32) (u1 : Int32) : (Int32) :=
  if u1 = 0 then
    0
  else
    let u10 := f_X1_in wh 0 ((WI 3) + 1)
    if u10 = 0 then
      0
    else
      1
def f_X1_isLook (ho : Int32) (wh : Int32) (WI : Nat → Int32) : Int32 :=
  let u1 := f_X1_in ho 0 11
  let v8 := f_X1_isLook_j1 wh WI u1
  v8
abbrev q_X1_isLook (D : va_G) (k : KK) (o : Nat) (r : Nat → Nat) (I : Nat → Int32) (L : Nat → Int64) (ho : Int32) (wh : Int32) (wa : Nat) (wd : WAd) (WI : Nat → Int32) (pr : Nat → Int32) (SI : Nat → Nat → Int32) (OI : Nat → Nat → Int32) (tn : Nat → Nat → Int32) (nS : Nat) (nO : Nat) (A : Nat → Prop) : Array Value → State → Outcome → State → Prop := va_Qi (fun (r_ : Int32) (u : Int32) => r_ = u ∧ u = f_X1_isLook ho wh WI ∧ (r_ = 0 ∨ r_ = 1)) (bx D (fun u => [(o, eRM r (.ref wa) I L)]) A) A
abbrev rm_X1_isLook : Room := { frames := 2, cells := 0, slots := 0, locals := 80 }
theorem xo_X1_isLook : xok yX1_isLook 2 := by unfold xok; decide +kernel
set_option maxHeartbeats 8000000 in
theorem m_X1_isLook (l : Launch) (D : va_G) (k : KK) (sz : Nat) (o : Nat) (r : Nat → Nat) (I : Nat → Int32) (L : Nat → Int64) (ho : Int32) (wh : Int32) (wa : Nat) (wd : WAd) (WI : Nat → Int32) (pr : Nat → Int32) (SI : Nat → Nat → Int32) (OI : Nat → Nat → Int32) (tn : Nat → Nat → Int32) (nS : Nat) (nO : Nat) (hnS : WI 3 = nI nS) (hnO : WI 4 = nI nO) (hS2 : 2 ≤ nS) (hS5 : nS ≤ 5) (hO4 : nO ≤ 4) : Met l yX1_isLook (ws_ yX1_isLook cX1_isLook 3 (some .boolean)) rm_X1_isLook (pcx D k [.ref o, .int ho, .int wh] sz [(o, eRM r (.ref wa) I L)] (wkY D k wa wd WI pr SI OI tn nS nO (va_A [(o, eRM r (.ref wa) I L)] sz))) (q_X1_isLook D k o r I L ho wh wa wd WI pr SI OI tn nS nO (va_A [(o, eRM r (.ref wa) I L)] sz)) 0 0 (va_A [(o, eRM r (.ref wa) I L)] sz) := by
  refine Met.start (Qc := q_X1_isLook D k o r I L ho wh wa wd WI pr SI OI tn nS nO) (by decide) (Nat.le_of_ble_eq_true rfl) ?_
  intro p e s m below meth c A hx hb hr hlocks hml hown hin hts hg hP hD hA hAn hS hY hsz ls hl
  have hown : s.vm.findClass RX1 = some m.cls := hown
  have hl : lv_has ls 3 [(0, .ref o), (1, .int ho), (2, .int wh)] := hl
  have hW := wkY.mono hY hAn
  refine lv_aload_n hx hb dX1_isLook_0 rfl (lv_at hl 0 rfl) ?_
  refine va_get (D := D) (ci := 0) (v := .ref wa) (C := RX1) (T := TX1) (N := 29) hx hb hts in_X1 hown hg.1 hP 0 rfl rfl 3 (Nat.le_of_ble_eq_true rfl) (hts _ q367) (fun _ h9 => h9) rfl dX1_isLook_1 ?_
  refine lv_ifnull hx hb dX1_isLook_4 ?_
  refine lv_iload_n hx hb dX1_isLook_7 rfl (lv_at hl 1 rfl) ?_
  refine lv_iconst (v := 0) hx hb dX1_isLook_8 ci_0 ?_
  refine lv_bipush (v := 11) hx hb dX1_isLook_9 cb_11 ?_
  refine xc_i (wc := []) (wr := [(o, eRM r (.ref wa) I L)]) hP hD hS hA [] [0] rfl rfl rfl (by decide) (xrS ⟨hx, hb, hml, hown, hts⟩ hg (m_X1_in l D k _ ho 0 11) hP hD [] rfl rfl trivial q469 q470 q83 q471 xo_X1_in ⟨rfl, rfl⟩ ⟨Nat.le_of_ble_eq_true rfl, Nat.le_of_ble_eq_true rfl⟩ hl.1 (Nat.le_of_ble_eq_true rfl) dX1_isLook_11 ⟨Nat.le_of_ble_eq_true rfl, Nat.le_of_ble_eq_true rfl⟩ rfl) (fun u1 r_ H locs hw hP hD hS hk => ?_)
  obtain ⟨rfl, eu1, bu1⟩ := hw
  replace hP : va_P D vwCl [(o, eRM r (.ref wa) I L)] H := hP.sub [0] rfl
  replace hD : va_D A [(o, eRM r (.ref wa) I L)] := hD.sub [0] (by decide) rfl
  have Jn1 : ∀ (v8 : (Int32)) (H : Heap) (locs : List Loc) (ls : Array Slot), v8 = f_X1_isLook_j1 wh WI u1 → (v8 = 0 ∨ v8 = 1) → va_P D vwCl [(o, eRM r (.ref wa) I L)] H → va_D A [(o, eRM r (.ref wa) I L)] → va_S A s.heap H locs → lv_has ls 3 [(0, .ref o), (1, .int ho), (2, .int wh)] → W p l e rm_X1_isLook s m ([.ref o, .int ho, .int wh] : List Value).toArray below meth c H locs 0 0 (MQ below (q_X1_isLook D k o r I L ho wh wa wd WI pr SI OI tn nS nO A) ([.ref o, .int ho, .int wh] : List Value).toArray s 0 0 A) (F0 m 39 ls [.int v8]) := by
    intro v8 H locs ls ev8 bv8_0 hP hD hS hl
    exact xret_z hx hb hr hlocks (Nat.le_of_ble_eq_true rfl) (Nat.le_of_ble_eq_true rfl) hS.2.2 dX1_isLook_39 bv8_0 (fun t ht => ⟨⟨v8, v8, rfl, ⟨rfl, (by subst ev8; subst eu1; exact rfl), bv8_0⟩, by rw [ht]; exact hP, hD⟩, hS.F ht⟩)
  refine lv_if_eq (tgt := 38) hx hb dX1_isLook_14 (by decide) (fun c9 => ?_) (fun c9 => ?_)
  · refine lv_iconst (v := 0) hx hb dX1_isLook_38 ci_0 ?_
    exact Jn1 0 _ _ _ (by exact Eq.symm (Eq.trans (if_pos c9) (rfl))) (Or.inl rfl) hP hD hS (lv_sub hl [0, 1, 2] rfl)
  · refine lv_iload_n hx hb dX1_isLook_17 rfl (lv_at hl 2 rfl) ?_
    refine lv_iconst (v := 0) hx hb dX1_isLook_18 ci_0 ?_
    refine lv_aload_n hx hb dX1_isLook_19 rfl (lv_at hl 0 rfl) ?_
    refine va_get (D := D) (ci := 0) (v := .ref wa) (C := RX1) (T := TX1) (N := 29) hx hb hts in_X1 hown hg.1 hP 0 rfl rfl 3 (Nat.le_of_ble_eq_true rfl) (hts _ q367) (fun _ h9 => h9) rfl dX1_isLook_20 ?_
    refine va_get (D := D) (ci := 7) (v := .int (WI 3)) (C := RX9) (T := TX9) (N := 13) hx hb hts in_X9 hown hg.1 (wkat hW hS).1 0 rfl rfl 3 (Nat.le_of_ble_eq_true rfl) (hts _ q503) (fun _ h9 => h9) rfl dX1_isLook_23 ?_
    refine lv_iconst (v := 1) hx hb dX1_isLook_26 ci_1 ?_
    refine lv_iadd hx hb dX1_isLook_27 ?_
    refine xc_i (wc := []) (wr := [(o, eRM r (.ref wa) I L)]) hP hD hS hA [] [0] rfl rfl rfl (by decide) (xrS ⟨hx, hb, hml, hown, hts⟩ hg (m_X1_in l D k _ wh 0 ((WI 3) + 1)) hP hD [] rfl rfl trivial q469 q470 q83 q471 xo_X1_in ⟨rfl, rfl⟩ ⟨Nat.le_of_ble_eq_true rfl, Nat.le_of_ble_eq_true rfl⟩ hl.1 (Nat.le_of_ble_eq_true rfl) dX1_isLook_28 ⟨Nat.le_of_ble_eq_true rfl, Nat.le_of_ble_eq_true rfl⟩ rfl) (fun u10 r_ H locs hw hP hD hS hk => ?_)
    obtain ⟨rfl, eu10, bu10⟩ := hw
    replace hP : va_P D vwCl [(o, eRM r (.ref wa) I L)] H := hP.sub [0] rfl
    replace hD : va_D A [(o, eRM r (.ref wa) I L)] := hD.sub [0] (by decide) rfl
    refine lv_if_eq (tgt := 38) hx hb dX1_isLook_31 (by decide) (fun c11 => ?_) (fun c11 => ?_)
    · refine lv_iconst (v := 0) hx hb dX1_isLook_38 ci_0 ?_
      exact Jn1 0 _ _ _ (by subst eu10; exact Eq.symm (Eq.trans (if_neg c9) (Eq.trans (if_pos c11) (rfl)))) (Or.inl rfl) hP hD hS (lv_sub hl [0, 1, 2] rfl)
    · refine lv_iconst (v := 1) hx hb dX1_isLook_34 ci_1 ?_
      refine lv_goto (tgt := 39) hx hb dX1_isLook_35 (by decide) ?_
      exact Jn1 1 _ _ _ (by subst eu10; exact Eq.symm (Eq.trans (if_neg c9) (Eq.trans (if_neg c11) (rfl)))) (Or.inr rfl) hP hD hS (lv_sub hl [0, 1, 2] rfl)

def f_X1_isLookN  : Int32 :=
  0
abbrev q_X1_isLookN (D : va_G) (k : KK) (o : Nat) (r : Nat → Nat) (I : Nat → Int32) (L : Nat → Int64) (ho : Int32) (wh : Int32) (A : Nat → Prop) : Array Value → State → Outcome → State → Prop := va_Qi (fun (r_ : Int32) (u : Int32) => r_ = u ∧ u = f_X1_isLookN ∧ (r_ = 0 ∨ r_ = 1)) (bx D (fun u => [(o, eRM r .null I L)]) A) A
abbrev rm_X1_isLookN : Room := { frames := 2, cells := 0, slots := 0, locals := 80 }
set_option maxHeartbeats 8000000 in
theorem m_X1_isLookN (l : Launch) (D : va_G) (k : KK) (sz : Nat) (o : Nat) (r : Nat → Nat) (I : Nat → Int32) (L : Nat → Int64) (ho : Int32) (wh : Int32)  : Met l yX1_isLook (ws_ yX1_isLook cX1_isLook 3 (some .boolean)) rm_X1_isLookN (pcx D k [.ref o, .int ho, .int wh] sz [(o, eRM r .null I L)] (fun _ => True)) (q_X1_isLookN D k o r I L ho wh (va_A [(o, eRM r .null I L)] sz)) 0 0 (va_A [(o, eRM r .null I L)] sz) := by
  refine Met.start (Qc := q_X1_isLookN D k o r I L ho wh) (by decide) (Nat.le_of_ble_eq_true rfl) ?_
  intro p e s m below meth c A hx hb hr hlocks hml hown hin hts hg hP hD hA hAn hS hY hsz ls hl
  have hown : s.vm.findClass RX1 = some m.cls := hown
  have hl : lv_has ls 3 [(0, .ref o), (1, .int ho), (2, .int wh)] := hl
  refine lv_aload_n hx hb dX1_isLook_0 rfl (lv_at hl 0 rfl) ?_
  refine va_get (D := D) (ci := 0) (v := .null) (C := RX1) (T := TX1) (N := 29) hx hb hts in_X1 hown hg.1 hP 0 rfl rfl 3 (Nat.le_of_ble_eq_true rfl) (hts _ q367) (fun _ h9 => h9) rfl dX1_isLook_1 ?_
  refine lv_ifnullN (tgt := 38) hx hb dX1_isLook_4 (by decide) ?_
  refine lv_iconst (v := 0) hx hb dX1_isLook_38 ci_0 ?_
  exact xret_z hx hb hr hlocks (Nat.le_of_ble_eq_true rfl) (Nat.le_of_ble_eq_true rfl) hS.2.2 dX1_isLook_39 (Or.inl rfl) (fun t ht => ⟨⟨0, 0, rfl, ⟨rfl, rfl, (Or.inl rfl)⟩, by rw [ht]; exact hP, hD⟩, hS.F ht⟩)

def f_X1_seen (I : Nat → Int32) (qH : Nat → Int32) (qW : Nat → Int32) (qV : Nat → Int32) (qO : Nat → Int32) (ho : Int32) (wh : Int32) (va : Int32) (of : Int32) (sn : Nat) (WI : Nat → Int32) : Int32 × Int32 × Int32 × Int32 × (Nat → Int32) × (Nat → Int32) × (Nat → Int32) × (Nat → Int32) :=
  let u1 := f_X1_anew
  let u2 := f_X1_isLook ho wh WI
  if u2 = 0 then
    let u17 := f_X1_no 1
    (u17.1, u17.2, u1.2, (I 18), qH, qW, qV, qO)
  else
    let u4 := f_X1_in va 0 999999
    if u4 = 0 then
      let u6 := f_X1_no 2
      (u6.1, u6.2, u1.2, (I 18), qH, qW, qV, qO)
    else
      let u7 := f_X1_in of 0 999
      if u7 = 0 then
        let u16 := f_X1_no 2
        (u16.1, u16.2, u1.2, (I 18), qH, qW, qV, qO)
      else
        if (I 18) = 24 then
          let u15 := f_X1_no 3
          (u15.1, u15.2, u1.2, (I 18), qH, qW, qV, qO)
        else
          let f10 := upd qH sn ho
          let f11 := upd qW sn wh
          let f12 := upd qV sn va
          let f13 := upd qO sn of
          let x14 := ((I 18) + 1)
          (x14, u1.1, u1.2, x14, f10, f11, f12, f13)
abbrev q_X1_seen (D : va_G) (k : KK) (o : Nat) (r : Nat → Nat) (I : Nat → Int32) (L : Nat → Int64) (qH : Nat → Int32) (qW : Nat → Int32) (qV : Nat → Int32) (qO : Nat → Int32) (ho : Int32) (wh : Int32) (va : Int32) (of : Int32) (sn : Nat) (wa : Nat) (wd : WAd) (WI : Nat → Int32) (pr : Nat → Int32) (SI : Nat → Nat → Int32) (OI : Nat → Nat → Int32) (tn : Nat → Nat → Int32) (nS : Nat) (nO : Nat) (A : Nat → Prop) : Array Value → State → Outcome → State → Prop := va_Qi (fun (r_ : Int32) (u : Int32 × Int32 × Int32 × Int32 × (Nat → Int32) × (Nat → Int32) × (Nat → Int32) × (Nat → Int32)) => r_ = u.1 ∧ u = f_X1_seen I qH qW qV qO ho wh va of sn WI) (bx D (fun u => [(o, eRM r (.ref wa) (upd (upd (upd I 4 u.2.1) 6 u.2.2.1) 18 u.2.2.2.1) L), ((r 14), aI k 24 u.2.2.2.2.1), ((r 15), aI k 24 u.2.2.2.2.2.1), ((r 16), aI k 24 u.2.2.2.2.2.2.1), ((r 17), aI k 24 u.2.2.2.2.2.2.2)]) A) A
abbrev rm_X1_seen : Room := { frames := 3, cells := 0, slots := 0, locals := 120 }
theorem xo_X1_seen : xok yX1_seen 4 := by unfold xok; decide +kernel
set_option maxHeartbeats 8000000 in
theorem m_X1_seen (l : Launch) (D : va_G) (k : KK) (sz : Nat) (o : Nat) (r : Nat → Nat) (I : Nat → Int32) (L : Nat → Int64) (qH : Nat → Int32) (qW : Nat → Int32) (qV : Nat → Int32) (qO : Nat → Int32) (ho : Int32) (wh : Int32) (va : Int32) (of : Int32) (sn : Nat) (wa : Nat) (wd : WAd) (WI : Nat → Int32) (pr : Nat → Int32) (SI : Nat → Nat → Int32) (OI : Nat → Nat → Int32) (tn : Nat → Nat → Int32) (nS : Nat) (nO : Nat) (hnS : WI 3 = nI nS) (hnO : WI 4 = nI nO) (hS2 : 2 ≤ nS) (hS5 : nS ≤ 5) (hO4 : nO ≤ 4) (hsn : I 18 = nI sn) (hs24 : sn ≤ 24) : Met l yX1_seen (ws_ yX1_seen cX1_seen 5 (some .int)) rm_X1_seen (pcx D k [.ref o, .int ho, .int wh, .int va, .int of] sz [(o, eRM r (.ref wa) I L), ((r 14), aI k 24 qH), ((r 15), aI k 24 qW), ((r 16), aI k 24 qV), ((r 17), aI k 24 qO)] (wkY D k wa wd WI pr SI OI tn nS nO (va_A [(o, eRM r (.ref wa) I L), ((r 14), aI k 24 qH), ((r 15), aI k 24 qW), ((r 16), aI k 24 qV), ((r 17), aI k 24 qO)] sz))) (q_X1_seen D k o r I L qH qW qV qO ho wh va of sn wa wd WI pr SI OI tn nS nO (va_A [(o, eRM r (.ref wa) I L), ((r 14), aI k 24 qH), ((r 15), aI k 24 qW), ((r 16), aI k 24 qV), ((r 17), aI k 24 qO)] sz)) 0 0 (va_A [(o, eRM r (.ref wa) I L), ((r 14), aI k 24 qH), ((r 15), aI k 24 qW), ((r 16), aI k 24 qV), ((r 17), aI k 24 qO)] sz) := by
  refine Met.start (Qc := q_X1_seen D k o r I L qH qW qV qO ho wh va of sn wa wd WI pr SI OI tn nS nO) (by decide) (Nat.le_of_ble_eq_true rfl) ?_
  intro p e s m below meth c A hx hb hr hlocks hml hown hin hts hg hP hD hA hAn hS hY hsz ls hl
  have hown : s.vm.findClass RX1 = some m.cls := hown
  have hl : lv_has ls 5 [(0, .ref o), (1, .int ho), (2, .int wh), (3, .int va), (4, .int of)] := hl
  have hW := wkY.mono hY hAn
  refine lv_aload_n hx hb dX1_seen_0 rfl (lv_at hl 0 rfl) ?_
  refine xc_v (wc := [(o, eRM r (.ref wa) I L)]) (wr := [((r 14), aI k 24 qH), ((r 15), aI k 24 qW), ((r 16), aI k 24 qV), ((r 17), aI k 24 qO)]) hP hD hS hA [0] [1, 2, 3, 4] rfl rfl rfl (by decide) (xrV ⟨hx, hb, hml, hown, hts⟩ hg (m_X1_anew l D k _ o r (.ref wa) I L) hP hD [0] rfl rfl trivial (ci := 0) (q0 := 0) rfl rfl rfl q465 q467 qs2 q83 q468 xo_X1_anew ⟨rfl, rfl⟩ ⟨Nat.le_of_ble_eq_true rfl, Nat.le_of_ble_eq_true rfl⟩ hl.1 (Nat.le_of_ble_eq_true rfl) dX1_seen_1 ⟨Nat.le_of_ble_eq_true rfl, Nat.le_of_ble_eq_true rfl⟩ rfl) (fun u1 H locs hw hP hD hS hk => ?_)
  have eu1 := hw
  replace hP : va_P D vwCl [(o, eRM r (.ref wa) (upd (upd I 4 u1.1) 6 u1.2) L), ((r 14), aI k 24 qH), ((r 15), aI k 24 qW), ((r 16), aI k 24 qV), ((r 17), aI k 24 qO)] H := hP.sub [4, 0, 1, 2, 3] rfl
  replace hD : va_D A [(o, eRM r (.ref wa) (upd (upd I 4 u1.1) 6 u1.2) L), ((r 14), aI k 24 qH), ((r 15), aI k 24 qW), ((r 16), aI k 24 qV), ((r 17), aI k 24 qO)] := hD.sub [4, 0, 1, 2, 3] (by decide) rfl
  refine lv_aload_n hx hb dX1_seen_4 rfl (lv_at hl 0 rfl) ?_
  refine lv_iload_n hx hb dX1_seen_5 rfl (lv_at hl 1 rfl) ?_
  refine lv_iload_n hx hb dX1_seen_6 rfl (lv_at hl 2 rfl) ?_
  refine xc_i (wc := [(o, eRM r (.ref wa) (upd (upd I 4 u1.1) 6 u1.2) L)]) (wr := [((r 14), aI k 24 qH), ((r 15), aI k 24 qW), ((r 16), aI k 24 qV), ((r 17), aI k 24 qO)]) hP hD hS hA [0] [1, 2, 3, 4] rfl rfl rfl (by decide) (xrV ⟨hx, hb, hml, hown, hts⟩ hg (m_X1_isLook l D k _ o r (upd (upd I 4 u1.1) 6 u1.2) L ho wh wa wd WI pr SI OI tn nS nO hnS hnO hS2 hS5 hO4) hP hD [0] rfl rfl (wkcall hW hS (va_free (wc := [(o, eRM r (.ref wa) (upd (upd I 4 u1.1) 6 u1.2) L)]) hD hS hA [0] rfl)) (ci := 0) (q0 := 0) rfl rfl rfl q952 q954 qs27 q83 q955 xo_X1_isLook ⟨rfl, rfl⟩ ⟨Nat.le_of_ble_eq_true rfl, Nat.le_of_ble_eq_true rfl⟩ hl.1 (Nat.le_of_ble_eq_true rfl) dX1_seen_7 ⟨Nat.le_of_ble_eq_true rfl, Nat.le_of_ble_eq_true rfl⟩ rfl) (fun u2 r_ H locs hw hP hD hS hk => ?_)
  obtain ⟨rfl, eu2, bu2⟩ := hw
  replace hP : va_P D vwCl [(o, eRM r (.ref wa) (upd (upd I 4 u1.1) 6 u1.2) L), ((r 14), aI k 24 qH), ((r 15), aI k 24 qW), ((r 16), aI k 24 qV), ((r 17), aI k 24 qO)] H := hP.sub [4, 0, 1, 2, 3] rfl
  replace hD : va_D A [(o, eRM r (.ref wa) (upd (upd I 4 u1.1) 6 u1.2) L), ((r 14), aI k 24 qH), ((r 15), aI k 24 qW), ((r 16), aI k 24 qV), ((r 17), aI k 24 qO)] := hD.sub [4, 0, 1, 2, 3] (by decide) rfl
  refine lv_if_ne (tgt := 19) hx hb dX1_seen_10 (by decide) (fun c3 => ?_) (fun c3 => ?_)
  · refine lv_iload_n hx hb dX1_seen_19 rfl (lv_at hl 3 rfl) ?_
    refine lv_iconst (v := 0) hx hb dX1_seen_20 ci_0 ?_
    refine lv_ldc hx hb hown (hts _ q956) dX1_seen_21 ?_
    refine xc_i (wc := []) (wr := [(o, eRM r (.ref wa) (upd (upd I 4 u1.1) 6 u1.2) L), ((r 14), aI k 24 qH), ((r 15), aI k 24 qW), ((r 16), aI k 24 qV), ((r 17), aI k 24 qO)]) hP hD hS hA [] [0, 1, 2, 3, 4] rfl rfl rfl (by decide) (xrS ⟨hx, hb, hml, hown, hts⟩ hg (m_X1_in l D k _ va 0 999999) hP hD [] rfl rfl trivial q469 q470 q83 q471 xo_X1_in ⟨rfl, rfl⟩ ⟨Nat.le_of_ble_eq_true rfl, Nat.le_of_ble_eq_true rfl⟩ hl.1 (Nat.le_of_ble_eq_true rfl) dX1_seen_23 ⟨Nat.le_of_ble_eq_true rfl, Nat.le_of_ble_eq_true rfl⟩ rfl) (fun u4 r_ H locs hw hP hD hS hk => ?_)
    obtain ⟨rfl, eu4, bu4⟩ := hw
    replace hP : va_P D vwCl [(o, eRM r (.ref wa) (upd (upd I 4 u1.1) 6 u1.2) L), ((r 14), aI k 24 qH), ((r 15), aI k 24 qW), ((r 16), aI k 24 qV), ((r 17), aI k 24 qO)] H := hP.sub [0, 1, 2, 3, 4] rfl
    replace hD : va_D A [(o, eRM r (.ref wa) (upd (upd I 4 u1.1) 6 u1.2) L), ((r 14), aI k 24 qH), ((r 15), aI k 24 qW), ((r 16), aI k 24 qV), ((r 17), aI k 24 qO)] := hD.sub [0, 1, 2, 3, 4] (by decide) rfl
    refine lv_if_eq (tgt := 41) hx hb dX1_seen_26 (by decide) (fun c5 => ?_) (fun c5 => ?_)
    · refine lv_aload_n hx hb dX1_seen_41 rfl (lv_at hl 0 rfl) ?_
      refine lv_iconst (v := 2) hx hb dX1_seen_42 ci_2 ?_
      refine xc_i (wc := [(o, eRM r (.ref wa) (upd (upd I 4 u1.1) 6 u1.2) L)]) (wr := [((r 14), aI k 24 qH), ((r 15), aI k 24 qW), ((r 16), aI k 24 qV), ((r 17), aI k 24 qO)]) hP hD hS hA [0] [1, 2, 3, 4] rfl rfl rfl (by decide) (xrV ⟨hx, hb, hml, hown, hts⟩ hg (m_X1_no l D k _ o r (.ref wa) (upd (upd I 4 u1.1) 6 u1.2) L 2) hP hD [0] rfl rfl trivial (ci := 0) (q0 := 0) rfl rfl rfl q472 q474 qs3 q83 q475 xo_X1_no ⟨rfl, rfl⟩ ⟨Nat.le_of_ble_eq_true rfl, Nat.le_of_ble_eq_true rfl⟩ hl.1 (Nat.le_of_ble_eq_true rfl) dX1_seen_43 ⟨Nat.le_of_ble_eq_true rfl, Nat.le_of_ble_eq_true rfl⟩ rfl) (fun r_ u6 H locs hw hP hD hS hk => ?_)
      obtain ⟨rfl, eu6⟩ := hw
      replace hP : va_P D vwCl [(o, eRM r (.ref wa) (upd (upd I 6 u1.2) 4 u6.2) L), ((r 14), aI k 24 qH), ((r 15), aI k 24 qW), ((r 16), aI k 24 qV), ((r 17), aI k 24 qO)] H := hP.sub [4, 0, 1, 2, 3] rfl
      replace hD : va_D A [(o, eRM r (.ref wa) (upd (upd I 6 u1.2) 4 u6.2) L), ((r 14), aI k 24 qH), ((r 15), aI k 24 qW), ((r 16), aI k 24 qV), ((r 17), aI k 24 qO)] := hD.sub [4, 0, 1, 2, 3] (by decide) rfl
      exact xret_i hx hb hr hlocks (Nat.le_of_ble_eq_true rfl) (Nat.le_of_ble_eq_true rfl) hS.2.2 dX1_seen_46 (fun t ht => ⟨⟨u6.1, (u6.1, u6.2, u1.2, (I 18), qH, qW, qV, qO), rfl, ⟨rfl, (by subst eu6; subst eu4; subst eu2; subst eu1; exact Eq.symm (Eq.trans (if_neg c3) (Eq.trans (if_pos c5) (rfl))))⟩, by rw [ht]; exact hP, hD⟩, hS.F ht⟩)
    · refine lv_iload hx hb dX1_seen_29 (lv_at hl 4 rfl) ?_
      refine lv_iconst (v := 0) hx hb dX1_seen_31 ci_0 ?_
      refine lv_sipush (v := 999) hx hb dX1_seen_32 cs_999 ?_
      refine xc_i (wc := []) (wr := [(o, eRM r (.ref wa) (upd (upd I 4 u1.1) 6 u1.2) L), ((r 14), aI k 24 qH), ((r 15), aI k 24 qW), ((r 16), aI k 24 qV), ((r 17), aI k 24 qO)]) hP hD hS hA [] [0, 1, 2, 3, 4] rfl rfl rfl (by decide) (xrS ⟨hx, hb, hml, hown, hts⟩ hg (m_X1_in l D k _ of 0 999) hP hD [] rfl rfl trivial q469 q470 q83 q471 xo_X1_in ⟨rfl, rfl⟩ ⟨Nat.le_of_ble_eq_true rfl, Nat.le_of_ble_eq_true rfl⟩ hl.1 (Nat.le_of_ble_eq_true rfl) dX1_seen_35 ⟨Nat.le_of_ble_eq_true rfl, Nat.le_of_ble_eq_true rfl⟩ rfl) (fun u7 r_ H locs hw hP hD hS hk => ?_)
      obtain ⟨rfl, eu7, bu7⟩ := hw
      replace hP : va_P D vwCl [(o, eRM r (.ref wa) (upd (upd I 4 u1.1) 6 u1.2) L), ((r 14), aI k 24 qH), ((r 15), aI k 24 qW), ((r 16), aI k 24 qV), ((r 17), aI k 24 qO)] H := hP.sub [0, 1, 2, 3, 4] rfl
      replace hD : va_D A [(o, eRM r (.ref wa) (upd (upd I 4 u1.1) 6 u1.2) L), ((r 14), aI k 24 qH), ((r 15), aI k 24 qW), ((r 16), aI k 24 qV), ((r 17), aI k 24 qO)] := hD.sub [0, 1, 2, 3, 4] (by decide) rfl
      refine lv_if_ne (tgt := 47) hx hb dX1_seen_38 (by decide) (fun c8 => ?_) (fun c8 => ?_)
      · refine lv_aload_n hx hb dX1_seen_47 rfl (lv_at hl 0 rfl) ?_
        refine va_get (D := D) (ci := 0) (v := .int (I 18)) (C := RX1) (T := TX1) (N := 29) hx hb hts in_X1 hown hg.1 hP 0 rfl rfl 18 (Nat.le_of_ble_eq_true rfl) (hts _ q382) (fun _ h9 => h9) rfl dX1_seen_48 ?_
        refine lv_bipush (v := 24) hx hb dX1_seen_51 cb_24 ?_
        refine lv_icmp_ne (tgt := 62) hx hb dX1_seen_53 (by decide) (fun c9 => ?_) (fun c9 => ?_)
        · have hsl : sn < 24 := by
            rcases Nat.lt_or_ge sn 24 with h | h
            · exact h
            · exact absurd (by first | (rw [hsn, show sn = 24 by omega]; decide) | (show I 18 = 24; rw [hsn, show sn = 24 by omega]; decide)) c9
          refine lv_aload_n hx hb dX1_seen_62 rfl (lv_at hl 0 rfl) ?_
          refine va_get (D := D) (ci := 0) (v := .ref (r 14)) (C := RX1) (T := TX1) (N := 29) hx hb hts in_X1 hown hg.1 hP 0 rfl rfl 14 (Nat.le_of_ble_eq_true rfl) (hts _ q378) (fun _ h9 => h9) rfl dX1_seen_63 ?_
          refine lv_aload_n hx hb dX1_seen_66 rfl (lv_at hl 0 rfl) ?_
          refine va_get (D := D) (ci := 0) (v := .int (I 18)) (C := RX1) (T := TX1) (N := 29) hx hb hts in_X1 hown hg.1 hP 0 rfl rfl 18 (Nat.le_of_ble_eq_true rfl) (hts _ q382) (fun _ h9 => h9) rfl dX1_seen_67 ?_
          refine lv_iload_n hx hb dX1_seen_70 rfl (lv_at hl 1 rfl) ?_
          refine xa_iast hx hb hg hP hD hS 1 rfl hsn (by omega) (by omega) dX1_seen_71 (fun f10 H locs ef10 hP hD hS => ?_)
          replace hP : va_P D vwCl [(o, eRM r (.ref wa) (upd (upd I 4 u1.1) 6 u1.2) L), ((r 14), aI k 24 f10), ((r 15), aI k 24 qW), ((r 16), aI k 24 qV), ((r 17), aI k 24 qO)] H := hP
          replace hD : va_D A [(o, eRM r (.ref wa) (upd (upd I 4 u1.1) 6 u1.2) L), ((r 14), aI k 24 f10), ((r 15), aI k 24 qW), ((r 16), aI k 24 qV), ((r 17), aI k 24 qO)] := hD
          refine lv_aload_n hx hb dX1_seen_72 rfl (lv_at hl 0 rfl) ?_
          refine va_get (D := D) (ci := 0) (v := .ref (r 15)) (C := RX1) (T := TX1) (N := 29) hx hb hts in_X1 hown hg.1 hP 0 rfl rfl 15 (Nat.le_of_ble_eq_true rfl) (hts _ q379) (fun _ h9 => h9) rfl dX1_seen_73 ?_
          refine lv_aload_n hx hb dX1_seen_76 rfl (lv_at hl 0 rfl) ?_
          refine va_get (D := D) (ci := 0) (v := .int (I 18)) (C := RX1) (T := TX1) (N := 29) hx hb hts in_X1 hown hg.1 hP 0 rfl rfl 18 (Nat.le_of_ble_eq_true rfl) (hts _ q382) (fun _ h9 => h9) rfl dX1_seen_77 ?_
          refine lv_iload_n hx hb dX1_seen_80 rfl (lv_at hl 2 rfl) ?_
          refine xa_iast hx hb hg hP hD hS 2 rfl hsn (by omega) (by omega) dX1_seen_81 (fun f11 H locs ef11 hP hD hS => ?_)
          replace hP : va_P D vwCl [(o, eRM r (.ref wa) (upd (upd I 4 u1.1) 6 u1.2) L), ((r 14), aI k 24 f10), ((r 15), aI k 24 f11), ((r 16), aI k 24 qV), ((r 17), aI k 24 qO)] H := hP
          replace hD : va_D A [(o, eRM r (.ref wa) (upd (upd I 4 u1.1) 6 u1.2) L), ((r 14), aI k 24 f10), ((r 15), aI k 24 f11), ((r 16), aI k 24 qV), ((r 17), aI k 24 qO)] := hD
          refine lv_aload_n hx hb dX1_seen_82 rfl (lv_at hl 0 rfl) ?_
          refine va_get (D := D) (ci := 0) (v := .ref (r 16)) (C := RX1) (T := TX1) (N := 29) hx hb hts in_X1 hown hg.1 hP 0 rfl rfl 16 (Nat.le_of_ble_eq_true rfl) (hts _ q380) (fun _ h9 => h9) rfl dX1_seen_83 ?_
          refine lv_aload_n hx hb dX1_seen_86 rfl (lv_at hl 0 rfl) ?_
          refine va_get (D := D) (ci := 0) (v := .int (I 18)) (C := RX1) (T := TX1) (N := 29) hx hb hts in_X1 hown hg.1 hP 0 rfl rfl 18 (Nat.le_of_ble_eq_true rfl) (hts _ q382) (fun _ h9 => h9) rfl dX1_seen_87 ?_
          refine lv_iload_n hx hb dX1_seen_90 rfl (lv_at hl 3 rfl) ?_
          refine xa_iast hx hb hg hP hD hS 3 rfl hsn (by omega) (by omega) dX1_seen_91 (fun f12 H locs ef12 hP hD hS => ?_)
          replace hP : va_P D vwCl [(o, eRM r (.ref wa) (upd (upd I 4 u1.1) 6 u1.2) L), ((r 14), aI k 24 f10), ((r 15), aI k 24 f11), ((r 16), aI k 24 f12), ((r 17), aI k 24 qO)] H := hP
          replace hD : va_D A [(o, eRM r (.ref wa) (upd (upd I 4 u1.1) 6 u1.2) L), ((r 14), aI k 24 f10), ((r 15), aI k 24 f11), ((r 16), aI k 24 f12), ((r 17), aI k 24 qO)] := hD
          refine lv_aload_n hx hb dX1_seen_92 rfl (lv_at hl 0 rfl) ?_
          refine va_get (D := D) (ci := 0) (v := .ref (r 17)) (C := RX1) (T := TX1) (N := 29) hx hb hts in_X1 hown hg.1 hP 0 rfl rfl 17 (Nat.le_of_ble_eq_true rfl) (hts _ q381) (fun _ h9 => h9) rfl dX1_seen_93 ?_
          refine lv_aload_n hx hb dX1_seen_96 rfl (lv_at hl 0 rfl) ?_
          refine va_get (D := D) (ci := 0) (v := .int (I 18)) (C := RX1) (T := TX1) (N := 29) hx hb hts in_X1 hown hg.1 hP 0 rfl rfl 18 (Nat.le_of_ble_eq_true rfl) (hts _ q382) (fun _ h9 => h9) rfl dX1_seen_97 ?_
          refine lv_iload hx hb dX1_seen_100 (lv_at hl 4 rfl) ?_
          refine xa_iast hx hb hg hP hD hS 4 rfl hsn (by omega) (by omega) dX1_seen_102 (fun f13 H locs ef13 hP hD hS => ?_)
          replace hP : va_P D vwCl [(o, eRM r (.ref wa) (upd (upd I 4 u1.1) 6 u1.2) L), ((r 14), aI k 24 f10), ((r 15), aI k 24 f11), ((r 16), aI k 24 f12), ((r 17), aI k 24 f13)] H := hP
          replace hD : va_D A [(o, eRM r (.ref wa) (upd (upd I 4 u1.1) 6 u1.2) L), ((r 14), aI k 24 f10), ((r 15), aI k 24 f11), ((r 16), aI k 24 f12), ((r 17), aI k 24 f13)] := hD
          refine lv_aload_n hx hb dX1_seen_103 rfl (lv_at hl 0 rfl) ?_
          refine lv_dup hx hb dX1_seen_104 rfl ?_
          refine va_get (D := D) (ci := 0) (v := .int (I 18)) (C := RX1) (T := TX1) (N := 29) hx hb hts in_X1 hown hg.1 hP 0 rfl rfl 18 (Nat.le_of_ble_eq_true rfl) (hts _ q382) (fun _ h9 => h9) rfl dX1_seen_105 ?_
          refine lv_iconst (v := 1) hx hb dX1_seen_108 ci_1 ?_
          refine lv_iadd hx hb dX1_seen_109 ?_
          refine lv_topi (fun x14 ex14 => ?_)
          refine va_put (D := D) (ci := 0) (v := .int x14) (C := RX1) (T := TX1) (N := 29) hx hb hts in_X1 tyX1 tyX1_ok nmX1 hown hg.1 hP hD hS 0 rfl rfl 18 (Nat.le_of_ble_eq_true rfl) (hts _ q382) (fun _ h9 => h9) rfl ftX1_18 rfl rfl (Nat.le_of_ble_eq_true rfl) dX1_seen_110 (fun H locs hP hD hS => ?_)
          replace hP : va_P D vwCl [(o, eRM r (.ref wa) (upd (upd (upd I 4 u1.1) 6 u1.2) 18 x14) L), ((r 14), aI k 24 f10), ((r 15), aI k 24 f11), ((r 16), aI k 24 f12), ((r 17), aI k 24 f13)] H := hP
          replace hD : va_D A [(o, eRM r (.ref wa) (upd (upd (upd I 4 u1.1) 6 u1.2) 18 x14) L), ((r 14), aI k 24 f10), ((r 15), aI k 24 f11), ((r 16), aI k 24 f12), ((r 17), aI k 24 f13)] := hD
          refine lv_aload_n hx hb dX1_seen_113 rfl (lv_at hl 0 rfl) ?_
          refine va_get (D := D) (ci := 0) (v := .int x14) (C := RX1) (T := TX1) (N := 29) hx hb hts in_X1 hown hg.1 hP 0 rfl rfl 18 (Nat.le_of_ble_eq_true rfl) (hts _ q382) (fun _ h9 => h9) rfl dX1_seen_114 ?_
          exact xret_i hx hb hr hlocks (Nat.le_of_ble_eq_true rfl) (Nat.le_of_ble_eq_true rfl) hS.2.2 dX1_seen_117 (fun t ht => ⟨⟨x14, (x14, u1.1, u1.2, x14, f10, f11, f12, f13), rfl, ⟨rfl, (by subst ex14; subst ef13; subst ef12; subst ef11; subst ef10; subst eu7; subst eu4; subst eu2; subst eu1; exact Eq.symm (Eq.trans (if_neg c3) (Eq.trans (if_neg c5) (Eq.trans (if_neg c8) (Eq.trans (if_neg c9) (rfl))))))⟩, by rw [ht]; exact hP, hD⟩, hS.F ht⟩)
        · refine lv_aload_n hx hb dX1_seen_56 rfl (lv_at hl 0 rfl) ?_
          refine lv_iconst (v := 3) hx hb dX1_seen_57 ci_3 ?_
          refine xc_i (wc := [(o, eRM r (.ref wa) (upd (upd I 4 u1.1) 6 u1.2) L)]) (wr := [((r 14), aI k 24 qH), ((r 15), aI k 24 qW), ((r 16), aI k 24 qV), ((r 17), aI k 24 qO)]) hP hD hS hA [0] [1, 2, 3, 4] rfl rfl rfl (by decide) (xrV ⟨hx, hb, hml, hown, hts⟩ hg (m_X1_no l D k _ o r (.ref wa) (upd (upd I 4 u1.1) 6 u1.2) L 3) hP hD [0] rfl rfl trivial (ci := 0) (q0 := 0) rfl rfl rfl q472 q474 qs3 q83 q475 xo_X1_no ⟨rfl, rfl⟩ ⟨Nat.le_of_ble_eq_true rfl, Nat.le_of_ble_eq_true rfl⟩ hl.1 (Nat.le_of_ble_eq_true rfl) dX1_seen_58 ⟨Nat.le_of_ble_eq_true rfl, Nat.le_of_ble_eq_true rfl⟩ rfl) (fun r_ u15 H locs hw hP hD hS hk => ?_)
          obtain ⟨rfl, eu15⟩ := hw
          replace hP : va_P D vwCl [(o, eRM r (.ref wa) (upd (upd I 6 u1.2) 4 u15.2) L), ((r 14), aI k 24 qH), ((r 15), aI k 24 qW), ((r 16), aI k 24 qV), ((r 17), aI k 24 qO)] H := hP.sub [4, 0, 1, 2, 3] rfl
          replace hD : va_D A [(o, eRM r (.ref wa) (upd (upd I 6 u1.2) 4 u15.2) L), ((r 14), aI k 24 qH), ((r 15), aI k 24 qW), ((r 16), aI k 24 qV), ((r 17), aI k 24 qO)] := hD.sub [4, 0, 1, 2, 3] (by decide) rfl
          exact xret_i hx hb hr hlocks (Nat.le_of_ble_eq_true rfl) (Nat.le_of_ble_eq_true rfl) hS.2.2 dX1_seen_61 (fun t ht => ⟨⟨u15.1, (u15.1, u15.2, u1.2, (I 18), qH, qW, qV, qO), rfl, ⟨rfl, (by subst eu15; subst eu7; subst eu4; subst eu2; subst eu1; exact Eq.symm (Eq.trans (if_neg c3) (Eq.trans (if_neg c5) (Eq.trans (if_neg c8) (Eq.trans (if_pos c9) (rfl))))))⟩, by rw [ht]; exact hP, hD⟩, hS.F ht⟩)
      · refine lv_aload_n hx hb dX1_seen_41 rfl (lv_at hl 0 rfl) ?_
        refine lv_iconst (v := 2) hx hb dX1_seen_42 ci_2 ?_
        refine xc_i (wc := [(o, eRM r (.ref wa) (upd (upd I 4 u1.1) 6 u1.2) L)]) (wr := [((r 14), aI k 24 qH), ((r 15), aI k 24 qW), ((r 16), aI k 24 qV), ((r 17), aI k 24 qO)]) hP hD hS hA [0] [1, 2, 3, 4] rfl rfl rfl (by decide) (xrV ⟨hx, hb, hml, hown, hts⟩ hg (m_X1_no l D k _ o r (.ref wa) (upd (upd I 4 u1.1) 6 u1.2) L 2) hP hD [0] rfl rfl trivial (ci := 0) (q0 := 0) rfl rfl rfl q472 q474 qs3 q83 q475 xo_X1_no ⟨rfl, rfl⟩ ⟨Nat.le_of_ble_eq_true rfl, Nat.le_of_ble_eq_true rfl⟩ hl.1 (Nat.le_of_ble_eq_true rfl) dX1_seen_43 ⟨Nat.le_of_ble_eq_true rfl, Nat.le_of_ble_eq_true rfl⟩ rfl) (fun r_ u16 H locs hw hP hD hS hk => ?_)
        obtain ⟨rfl, eu16⟩ := hw
        replace hP : va_P D vwCl [(o, eRM r (.ref wa) (upd (upd I 6 u1.2) 4 u16.2) L), ((r 14), aI k 24 qH), ((r 15), aI k 24 qW), ((r 16), aI k 24 qV), ((r 17), aI k 24 qO)] H := hP.sub [4, 0, 1, 2, 3] rfl
        replace hD : va_D A [(o, eRM r (.ref wa) (upd (upd I 6 u1.2) 4 u16.2) L), ((r 14), aI k 24 qH), ((r 15), aI k 24 qW), ((r 16), aI k 24 qV), ((r 17), aI k 24 qO)] := hD.sub [4, 0, 1, 2, 3] (by decide) rfl
        exact xret_i hx hb hr hlocks (Nat.le_of_ble_eq_true rfl) (Nat.le_of_ble_eq_true rfl) hS.2.2 dX1_seen_46 (fun t ht => ⟨⟨u16.1, (u16.1, u16.2, u1.2, (I 18), qH, qW, qV, qO), rfl, ⟨rfl, (by subst eu16; subst eu7; subst eu4; subst eu2; subst eu1; exact Eq.symm (Eq.trans (if_neg c3) (Eq.trans (if_neg c5) (Eq.trans (if_pos c8) (rfl)))))⟩, by rw [ht]; exact hP, hD⟩, hS.F ht⟩)
  · refine lv_aload_n hx hb dX1_seen_13 rfl (lv_at hl 0 rfl) ?_
    refine lv_iconst (v := 1) hx hb dX1_seen_14 ci_1 ?_
    refine xc_i (wc := [(o, eRM r (.ref wa) (upd (upd I 4 u1.1) 6 u1.2) L)]) (wr := [((r 14), aI k 24 qH), ((r 15), aI k 24 qW), ((r 16), aI k 24 qV), ((r 17), aI k 24 qO)]) hP hD hS hA [0] [1, 2, 3, 4] rfl rfl rfl (by decide) (xrV ⟨hx, hb, hml, hown, hts⟩ hg (m_X1_no l D k _ o r (.ref wa) (upd (upd I 4 u1.1) 6 u1.2) L 1) hP hD [0] rfl rfl trivial (ci := 0) (q0 := 0) rfl rfl rfl q472 q474 qs3 q83 q475 xo_X1_no ⟨rfl, rfl⟩ ⟨Nat.le_of_ble_eq_true rfl, Nat.le_of_ble_eq_true rfl⟩ hl.1 (Nat.le_of_ble_eq_true rfl) dX1_seen_15 ⟨Nat.le_of_ble_eq_true rfl, Nat.le_of_ble_eq_true rfl⟩ rfl) (fun r_ u17 H locs hw hP hD hS hk => ?_)
    obtain ⟨rfl, eu17⟩ := hw
    replace hP : va_P D vwCl [(o, eRM r (.ref wa) (upd (upd I 6 u1.2) 4 u17.2) L), ((r 14), aI k 24 qH), ((r 15), aI k 24 qW), ((r 16), aI k 24 qV), ((r 17), aI k 24 qO)] H := hP.sub [4, 0, 1, 2, 3] rfl
    replace hD : va_D A [(o, eRM r (.ref wa) (upd (upd I 6 u1.2) 4 u17.2) L), ((r 14), aI k 24 qH), ((r 15), aI k 24 qW), ((r 16), aI k 24 qV), ((r 17), aI k 24 qO)] := hD.sub [4, 0, 1, 2, 3] (by decide) rfl
    exact xret_i hx hb hr hlocks (Nat.le_of_ble_eq_true rfl) (Nat.le_of_ble_eq_true rfl) hS.2.2 dX1_seen_18 (fun t ht => ⟨⟨u17.1, (u17.1, u17.2, u1.2, (I 18), qH, qW, qV, qO), rfl, ⟨rfl, (by subst eu17; subst eu2; subst eu1; exact Eq.symm (Eq.trans (if_pos c3) (rfl)))⟩, by rw [ht]; exact hP, hD⟩, hS.F ht⟩)

def f_X1_seenN  : Int32 × Int32 × Int32 :=
  let u1 := f_X1_anew
  let u2 := f_X1_isLookN
  let u3 := f_X1_no 1
  (u3.1, u3.2, u1.2)
abbrev q_X1_seenN (D : va_G) (k : KK) (o : Nat) (r : Nat → Nat) (I : Nat → Int32) (L : Nat → Int64) (ho : Int32) (wh : Int32) (va : Int32) (of : Int32) (A : Nat → Prop) : Array Value → State → Outcome → State → Prop := va_Qi (fun (r_ : Int32) (u : Int32 × Int32 × Int32) => r_ = u.1 ∧ u = f_X1_seenN) (bx D (fun u => [(o, eRM r .null (upd (upd I 4 u.2.1) 6 u.2.2) L)]) A) A
abbrev rm_X1_seenN : Room := { frames := 3, cells := 0, slots := 0, locals := 120 }
set_option maxHeartbeats 8000000 in
theorem m_X1_seenN (l : Launch) (D : va_G) (k : KK) (sz : Nat) (o : Nat) (r : Nat → Nat) (I : Nat → Int32) (L : Nat → Int64) (ho : Int32) (wh : Int32) (va : Int32) (of : Int32)  : Met l yX1_seen (ws_ yX1_seen cX1_seen 5 (some .int)) rm_X1_seenN (pcx D k [.ref o, .int ho, .int wh, .int va, .int of] sz [(o, eRM r .null I L)] (fun _ => True)) (q_X1_seenN D k o r I L ho wh va of (va_A [(o, eRM r .null I L)] sz)) 0 0 (va_A [(o, eRM r .null I L)] sz) := by
  refine Met.start (Qc := q_X1_seenN D k o r I L ho wh va of) (by decide) (Nat.le_of_ble_eq_true rfl) ?_
  intro p e s m below meth c A hx hb hr hlocks hml hown hin hts hg hP hD hA hAn hS hY hsz ls hl
  have hown : s.vm.findClass RX1 = some m.cls := hown
  have hl : lv_has ls 5 [(0, .ref o), (1, .int ho), (2, .int wh), (3, .int va), (4, .int of)] := hl
  refine lv_aload_n hx hb dX1_seen_0 rfl (lv_at hl 0 rfl) ?_
  refine xc_v (wc := [(o, eRM r .null I L)]) (wr := []) hP hD hS hA [0] [] rfl rfl rfl (by decide) (xrV ⟨hx, hb, hml, hown, hts⟩ hg (m_X1_anew l D k _ o r .null I L) hP hD [0] rfl rfl trivial (ci := 0) (q0 := 0) rfl rfl rfl q465 q467 qs2 q83 q468 xo_X1_anew ⟨rfl, rfl⟩ ⟨Nat.le_of_ble_eq_true rfl, Nat.le_of_ble_eq_true rfl⟩ hl.1 (Nat.le_of_ble_eq_true rfl) dX1_seen_1 ⟨Nat.le_of_ble_eq_true rfl, Nat.le_of_ble_eq_true rfl⟩ rfl) (fun u1 H locs hw hP hD hS hk => ?_)
  have eu1 := hw
  replace hP : va_P D vwCl [(o, eRM r .null (upd (upd I 4 u1.1) 6 u1.2) L)] H := hP.sub [0] rfl
  replace hD : va_D A [(o, eRM r .null (upd (upd I 4 u1.1) 6 u1.2) L)] := hD.sub [0] (by decide) rfl
  refine lv_aload_n hx hb dX1_seen_4 rfl (lv_at hl 0 rfl) ?_
  refine lv_iload_n hx hb dX1_seen_5 rfl (lv_at hl 1 rfl) ?_
  refine lv_iload_n hx hb dX1_seen_6 rfl (lv_at hl 2 rfl) ?_
  refine xc_i (wc := [(o, eRM r .null (upd (upd I 4 u1.1) 6 u1.2) L)]) (wr := []) hP hD hS hA [0] [] rfl rfl rfl (by decide) (xrV ⟨hx, hb, hml, hown, hts⟩ hg (m_X1_isLookN l D k _ o r (upd (upd I 4 u1.1) 6 u1.2) L ho wh) hP hD [0] rfl rfl trivial (ci := 0) (q0 := 0) rfl rfl rfl q952 q954 qs27 q83 q955 xo_X1_isLook ⟨rfl, rfl⟩ ⟨Nat.le_of_ble_eq_true rfl, Nat.le_of_ble_eq_true rfl⟩ hl.1 (Nat.le_of_ble_eq_true rfl) dX1_seen_7 ⟨Nat.le_of_ble_eq_true rfl, Nat.le_of_ble_eq_true rfl⟩ rfl) (fun u2 r_ H locs hw hP hD hS hk => ?_)
  obtain ⟨rfl, eu2, bu2⟩ := hw
  replace hP : va_P D vwCl [(o, eRM r .null (upd (upd I 4 u1.1) 6 u1.2) L)] H := hP.sub [0] rfl
  replace hD : va_D A [(o, eRM r .null (upd (upd I 4 u1.1) 6 u1.2) L)] := hD.sub [0] (by decide) rfl
  refine lv_if_ne (tgt := 19) hx hb dX1_seen_10 (by decide) (fun c => absurd ((eu2).trans rfl) c) (fun _ => ?_)
  refine lv_aload_n hx hb dX1_seen_13 rfl (lv_at hl 0 rfl) ?_
  refine lv_iconst (v := 1) hx hb dX1_seen_14 ci_1 ?_
  refine xc_i (wc := [(o, eRM r .null (upd (upd I 4 u1.1) 6 u1.2) L)]) (wr := []) hP hD hS hA [0] [] rfl rfl rfl (by decide) (xrV ⟨hx, hb, hml, hown, hts⟩ hg (m_X1_no l D k _ o r .null (upd (upd I 4 u1.1) 6 u1.2) L 1) hP hD [0] rfl rfl trivial (ci := 0) (q0 := 0) rfl rfl rfl q472 q474 qs3 q83 q475 xo_X1_no ⟨rfl, rfl⟩ ⟨Nat.le_of_ble_eq_true rfl, Nat.le_of_ble_eq_true rfl⟩ hl.1 (Nat.le_of_ble_eq_true rfl) dX1_seen_15 ⟨Nat.le_of_ble_eq_true rfl, Nat.le_of_ble_eq_true rfl⟩ rfl) (fun r_ u3 H locs hw hP hD hS hk => ?_)
  obtain ⟨rfl, eu3⟩ := hw
  replace hP : va_P D vwCl [(o, eRM r .null (upd (upd I 6 u1.2) 4 u3.2) L)] H := hP.sub [0] rfl
  replace hD : va_D A [(o, eRM r .null (upd (upd I 6 u1.2) 4 u3.2) L)] := hD.sub [0] (by decide) rfl
  exact xret_i hx hb hr hlocks (Nat.le_of_ble_eq_true rfl) (Nat.le_of_ble_eq_true rfl) hS.2.2 dX1_seen_18 (fun t ht => ⟨⟨u3.1, (u3.1, u3.2, u1.2), rfl, ⟨rfl, (by subst eu3; subst eu2; subst eu1; exact rfl)⟩, by rw [ht]; exact hP, hD⟩, hS.F ht⟩)

def f_X1_forget (I : Nat → Int32) : Int32 × Int32 :=
  let x1 := (I 18)
  (x1, 0)
abbrev q_X1_forget (D : va_G) (k : KK) (o : Nat) (r : Nat → Nat) (I : Nat → Int32) (L : Nat → Int64) (w : Value) (A : Nat → Prop) : Array Value → State → Outcome → State → Prop := va_Qi (fun (r_ : Int32) (u : Int32 × Int32) => r_ = u.1 ∧ u = f_X1_forget I) (bx D (fun u => [(o, eRM r w (upd I 18 u.2) L)]) A) A
abbrev rm_X1_forget : Room := { frames := 1, cells := 0, slots := 0, locals := 40 }
theorem xo_X1_forget : xok yX1_forget 0 := by unfold xok; decide +kernel
set_option maxHeartbeats 8000000 in
theorem m_X1_forget (l : Launch) (D : va_G) (k : KK) (sz : Nat) (o : Nat) (r : Nat → Nat) (I : Nat → Int32) (L : Nat → Int64) (w : Value)  : Met l yX1_forget (ws_ yX1_forget cX1_forget 2 (some .int)) rm_X1_forget (pcx D k [.ref o] sz [(o, eRM r w I L)] (fun _ => True)) (q_X1_forget D k o r I L w (va_A [(o, eRM r w I L)] sz)) 0 0 (va_A [(o, eRM r w I L)] sz) := by
  refine Met.start (Qc := q_X1_forget D k o r I L w) (by decide) (Nat.le_of_ble_eq_true rfl) ?_
  intro p e s m below meth c A hx hb hr hlocks hml hown hin hts hg hP hD hA hAn hS hY hsz ls hl
  have hown : s.vm.findClass RX1 = some m.cls := hown
  have hl : lv_has ls 2 [(0, .ref o)] := hl
  refine lv_aload_n hx hb dX1_forget_0 rfl (lv_at hl 0 rfl) ?_
  refine va_get (D := D) (ci := 0) (v := .int (I 18)) (C := RX1) (T := TX1) (N := 29) hx hb hts in_X1 hown hg.1 hP 0 rfl rfl 18 (Nat.le_of_ble_eq_true rfl) (hts _ q382) (fun _ h9 => h9) rfl dX1_forget_1 ?_
  refine lv_topi (fun x1 ex1 => ?_)
  refine lv_istore_n (lv' := [(1, .int x1), (0, .ref o)]) hx hb dX1_forget_4 rfl hl (Nat.le_of_ble_eq_true rfl) rfl (fun ls hl => ?_)
  refine lv_aload_n hx hb dX1_forget_5 rfl (lv_at hl 1 rfl) ?_
  refine lv_iconst (v := 0) hx hb dX1_forget_6 ci_0 ?_
  refine va_put (D := D) (ci := 0) (v := .int 0) (C := RX1) (T := TX1) (N := 29) hx hb hts in_X1 tyX1 tyX1_ok nmX1 hown hg.1 hP hD hS 0 rfl rfl 18 (Nat.le_of_ble_eq_true rfl) (hts _ q382) (fun _ h9 => h9) rfl ftX1_18 rfl rfl (Nat.le_of_ble_eq_true rfl) dX1_forget_7 (fun H locs hP hD hS => ?_)
  replace hP : va_P D vwCl [(o, eRM r w (upd I 18 0) L)] H := hP
  replace hD : va_D A [(o, eRM r w (upd I 18 0) L)] := hD
  refine lv_iload_n hx hb dX1_forget_10 rfl (lv_at hl 0 rfl) ?_
  exact xret_i hx hb hr hlocks (Nat.le_of_ble_eq_true rfl) (Nat.le_of_ble_eq_true rfl) hS.2.2 dX1_forget_11 (fun t ht => ⟨⟨x1, (x1, 0), rfl, ⟨rfl, (by subst ex1; exact rfl)⟩, by rw [ht]; exact hP, hD⟩, hS.F ht⟩)

def f_X1_look_j1 (I : Nat → Int32) (h2 : Nat → Int32) (wh : Int32) (wj : Nat) : (Int32) :=
  if wh = 0 then
    (I 14)
  else
    if wh = 1 then
      (I 13)
    else
      (h2 (wj - 2))
def f_X1_look (I : Nat → Int32) (h2 : Nat → Int32) (wh : Int32) (wj : Nat) : Int32 :=
  let v5 := f_X1_look_j1 I h2 wh wj
  v5
abbrev q_X1_look (D : va_G) (k : KK) (st : Nat) (sr : Nat → Nat) (I : Nat → Int32) (L : Nat → Int64) (h0 : Nat → Int32) (h1 : Nat → Int32) (h2 : Nat → Int32) (h3 : Nat → Int32) (wh : Int32) (wj : Nat) (A : Nat → Prop) : Array Value → State → Outcome → State → Prop := va_Qi (fun (r_ : Int32) (u : Int32) => r_ = u ∧ u = f_X1_look I h2 wh wj) (bx D (fun u => [(st, eST sr I L), ((sr 0), aI k 5 h0), ((sr 1), aI k 5 h1), ((sr 2), aI k 5 h2), ((sr 3), aI k 5 h3)]) A) A
abbrev rm_X1_look : Room := { frames := 1, cells := 0, slots := 0, locals := 40 }
theorem xo_X1_look : xok yX1_look 2 := by unfold xok; decide +kernel
set_option maxHeartbeats 8000000 in
theorem m_X1_look (l : Launch) (D : va_G) (k : KK) (sz : Nat) (st : Nat) (sr : Nat → Nat) (I : Nat → Int32) (L : Nat → Int64) (h0 : Nat → Int32) (h1 : Nat → Int32) (h2 : Nat → Int32) (h3 : Nat → Int32) (wh : Int32) (wj : Nat) (hwh : wh = nI wj) (hw6 : wj ≤ 6) : Met l yX1_look (ws_ yX1_look cX1_look 2 (some .int)) rm_X1_look (pcx D k [.ref st, .int wh] sz [(st, eST sr I L), ((sr 0), aI k 5 h0), ((sr 1), aI k 5 h1), ((sr 2), aI k 5 h2), ((sr 3), aI k 5 h3)] (fun _ => True)) (q_X1_look D k st sr I L h0 h1 h2 h3 wh wj (va_A [(st, eST sr I L), ((sr 0), aI k 5 h0), ((sr 1), aI k 5 h1), ((sr 2), aI k 5 h2), ((sr 3), aI k 5 h3)] sz)) 0 0 (va_A [(st, eST sr I L), ((sr 0), aI k 5 h0), ((sr 1), aI k 5 h1), ((sr 2), aI k 5 h2), ((sr 3), aI k 5 h3)] sz) := by
  refine Met.start (Qc := q_X1_look D k st sr I L h0 h1 h2 h3 wh wj) (by decide) (Nat.le_of_ble_eq_true rfl) ?_
  intro p e s m below meth c A hx hb hr hlocks hml hown hin hts hg hP hD hA hAn hS hY hsz ls hl
  have hown : s.vm.findClass RX1 = some m.cls := hown
  have hl : lv_has ls 2 [(0, .ref st), (1, .int wh)] := hl
  refine lv_iload_n hx hb dX1_look_0 rfl (lv_at hl 1 rfl) ?_
  have Jn1 : ∀ (v5 : (Int32)) (H : Heap) (locs : List Loc) (ls : Array Slot), v5 = f_X1_look_j1 I h2 wh wj → va_P D vwCl [(st, eST sr I L), ((sr 0), aI k 5 h0), ((sr 1), aI k 5 h1), ((sr 2), aI k 5 h2), ((sr 3), aI k 5 h3)] H → va_D A [(st, eST sr I L), ((sr 0), aI k 5 h0), ((sr 1), aI k 5 h1), ((sr 2), aI k 5 h2), ((sr 3), aI k 5 h3)] → va_S A s.heap H locs → lv_has ls 2 [(0, .ref st), (1, .int wh)] → W p l e rm_X1_look s m ([.ref st, .int wh] : List Value).toArray below meth c H locs 0 0 (MQ below (q_X1_look D k st sr I L h0 h1 h2 h3 wh wj A) ([.ref st, .int wh] : List Value).toArray s 0 0 A) (F0 m 31 ls [.int v5]) := by
    intro v5 H locs ls ev5 hP hD hS hl
    exact xret_i hx hb hr hlocks (Nat.le_of_ble_eq_true rfl) (Nat.le_of_ble_eq_true rfl) hS.2.2 dX1_look_31 (fun t ht => ⟨⟨v5, v5, rfl, ⟨rfl, (by subst ev5; exact rfl)⟩, by rw [ht]; exact hP, hD⟩, hS.F ht⟩)
  refine lv_if_ne (tgt := 11) hx hb dX1_look_1 (by decide) (fun c6 => ?_) (fun c6 => ?_)
  · refine lv_iload_n hx hb dX1_look_11 rfl (lv_at hl 1 rfl) ?_
    refine lv_iconst (v := 1) hx hb dX1_look_12 ci_1 ?_
    refine lv_icmp_ne (tgt := 23) hx hb dX1_look_13 (by decide) (fun c7 => ?_) (fun c7 => ?_)
    · refine lv_aload_n hx hb dX1_look_23 rfl (lv_at hl 0 rfl) ?_
      refine va_get (D := D) (ci := 3) (v := .ref (sr 2)) (C := RX4) (T := TX4) (N := 18) hx hb hts in_X4 hown hg.1 hP 0 rfl rfl 2 (Nat.le_of_ble_eq_true rfl) (hts _ q238) (fun _ h9 => h9) rfl dX1_look_24 ?_
      refine lv_iload_n hx hb dX1_look_27 rfl (lv_at hl 1 rfl) ?_
      refine lv_iconst (v := 2) hx hb dX1_look_28 ci_2 ?_
      have hw2 : 2 ≤ wj := by
        rcases (show wj = 0 ∨ wj = 1 ∨ 2 ≤ wj by omega) with h | h | h
        · exact absurd (by rw [hwh, h]; decide) c6
        · exact absurd (by rw [hwh, h]; decide) c7
        · exact h
      refine lv_isub hx hb dX1_look_29 ?_
      refine xa_iald hx hb hg hP 3 rfl (xnsub hwh xl_2 (by omega)) (by first | omega | exact Nat.lt_of_lt_of_le (Nat.mod_lt _ (by omega)) (by omega)) (by omega) dX1_look_30 ?_
      exact Jn1 (h2 (wj - 2)) _ _ _ (by exact Eq.symm (Eq.trans (if_neg c6) (Eq.trans (if_neg c7) (rfl)))) hP hD hS (lv_sub hl [0, 1] rfl)
    · refine lv_aload_n hx hb dX1_look_16 rfl (lv_at hl 0 rfl) ?_
      refine va_get (D := D) (ci := 3) (v := .int (I 13)) (C := RX4) (T := TX4) (N := 18) hx hb hts in_X4 hown hg.1 hP 0 rfl rfl 13 (Nat.le_of_ble_eq_true rfl) (hts _ q260) (fun _ h9 => h9) rfl dX1_look_17 ?_
      refine lv_goto (tgt := 31) hx hb dX1_look_20 (by decide) ?_
      exact Jn1 (I 13) _ _ _ (by exact Eq.symm (Eq.trans (if_neg c6) (Eq.trans (if_pos c7) (rfl)))) hP hD hS (lv_sub hl [0, 1] rfl)
  · refine lv_aload_n hx hb dX1_look_4 rfl (lv_at hl 0 rfl) ?_
    refine va_get (D := D) (ci := 3) (v := .int (I 14)) (C := RX4) (T := TX4) (N := 18) hx hb hts in_X4 hown hg.1 hP 0 rfl rfl 14 (Nat.le_of_ble_eq_true rfl) (hts _ q262) (fun _ h9 => h9) rfl dX1_look_5 ?_
    refine lv_goto (tgt := 31) hx hb dX1_look_8 (by decide) ?_
    exact Jn1 (I 14) _ _ _ (by exact Eq.symm (Eq.trans (if_pos c6) (rfl))) hP hD hS (lv_sub hl [0, 1] rfl)

def f_X1_isStart_j1 (li : Int32) (fl : Int32) (u1 : Int32) : (Int32) :=
  if u1 = 0 then
    0
  else
    let u14 := f_X1_in li 0 4
    if u14 = 0 then
      0
    else
      let u16 := f_X1_in fl 0 4
      if u16 = 0 then
        0
      else
        1
def f_X1_isStart (te : Int32) (li : Int32) (fl : Int32) : Int32 :=
  let u1 := f_X1_in te 0 3
  let v12 := f_X1_isStart_j1 li fl u1
  v12
abbrev q_X1_isStart (D : va_G) (k : KK) (o : Nat) (r : Nat → Nat) (I : Nat → Int32) (L : Nat → Int64) (w : Value) (te : Int32) (li : Int32) (fl : Int32) (A : Nat → Prop) : Array Value → State → Outcome → State → Prop := va_Qi (fun (r_ : Int32) (u : Int32) => r_ = u ∧ u = f_X1_isStart te li fl ∧ (r_ = 0 ∨ r_ = 1)) (bx D (fun u => [(o, eRM r w I L)]) A) A
abbrev rm_X1_isStart : Room := { frames := 2, cells := 0, slots := 0, locals := 80 }
theorem xo_X1_isStart : xok yX1_isStart 3 := by unfold xok; decide +kernel
set_option maxHeartbeats 8000000 in
theorem m_X1_isStart (l : Launch) (D : va_G) (k : KK) (sz : Nat) (o : Nat) (r : Nat → Nat) (I : Nat → Int32) (L : Nat → Int64) (w : Value) (te : Int32) (li : Int32) (fl : Int32)  : Met l yX1_isStart (ws_ yX1_isStart cX1_isStart 4 (some .boolean)) rm_X1_isStart (pcx D k [.ref o, .int te, .int li, .int fl] sz [(o, eRM r w I L)] (fun _ => True)) (q_X1_isStart D k o r I L w te li fl (va_A [(o, eRM r w I L)] sz)) 0 0 (va_A [(o, eRM r w I L)] sz) := by
  refine Met.start (Qc := q_X1_isStart D k o r I L w te li fl) (by decide) (Nat.le_of_ble_eq_true rfl) ?_
  intro p e s m below meth c A hx hb hr hlocks hml hown hin hts hg hP hD hA hAn hS hY hsz ls hl
  have hown : s.vm.findClass RX1 = some m.cls := hown
  have hl : lv_has ls 4 [(0, .ref o), (1, .int te), (2, .int li), (3, .int fl)] := hl
  refine lv_iload_n hx hb dX1_isStart_0 rfl (lv_at hl 1 rfl) ?_
  refine lv_iconst (v := 0) hx hb dX1_isStart_1 ci_0 ?_
  refine lv_iconst (v := 3) hx hb dX1_isStart_2 ci_3 ?_
  refine xc_i (wc := []) (wr := [(o, eRM r w I L)]) hP hD hS hA [] [0] rfl rfl rfl (by decide) (xrS ⟨hx, hb, hml, hown, hts⟩ hg (m_X1_in l D k _ te 0 3) hP hD [] rfl rfl trivial q469 q470 q83 q471 xo_X1_in ⟨rfl, rfl⟩ ⟨Nat.le_of_ble_eq_true rfl, Nat.le_of_ble_eq_true rfl⟩ hl.1 (Nat.le_of_ble_eq_true rfl) dX1_isStart_3 ⟨Nat.le_of_ble_eq_true rfl, Nat.le_of_ble_eq_true rfl⟩ rfl) (fun u1 r_ H locs hw hP hD hS hk => ?_)
  obtain ⟨rfl, eu1, bu1⟩ := hw
  replace hP : va_P D vwCl [(o, eRM r w I L)] H := hP.sub [0] rfl
  replace hD : va_D A [(o, eRM r w I L)] := hD.sub [0] (by decide) rfl
  have Jn1 : ∀ (v12 : (Int32)) (H : Heap) (locs : List Loc) (ls : Array Slot), v12 = f_X1_isStart_j1 li fl u1 → (v12 = 0 ∨ v12 = 1) → va_P D vwCl [(o, eRM r w I L)] H → va_D A [(o, eRM r w I L)] → va_S A s.heap H locs → lv_has ls 4 [(0, .ref o), (1, .int te), (2, .int li), (3, .int fl)] → W p l e rm_X1_isStart s m ([.ref o, .int te, .int li, .int fl] : List Value).toArray below meth c H locs 0 0 (MQ below (q_X1_isStart D k o r I L w te li fl A) ([.ref o, .int te, .int li, .int fl] : List Value).toArray s 0 0 A) (F0 m 32 ls [.int v12]) := by
    intro v12 H locs ls ev12 bv12_0 hP hD hS hl
    exact xret_z hx hb hr hlocks (Nat.le_of_ble_eq_true rfl) (Nat.le_of_ble_eq_true rfl) hS.2.2 dX1_isStart_32 bv12_0 (fun t ht => ⟨⟨v12, v12, rfl, ⟨rfl, (by subst ev12; subst eu1; exact rfl), bv12_0⟩, by rw [ht]; exact hP, hD⟩, hS.F ht⟩)
  refine lv_if_eq (tgt := 31) hx hb dX1_isStart_6 (by decide) (fun c13 => ?_) (fun c13 => ?_)
  · refine lv_iconst (v := 0) hx hb dX1_isStart_31 ci_0 ?_
    exact Jn1 0 _ _ _ (by exact Eq.symm (Eq.trans (if_pos c13) (rfl))) (Or.inl rfl) hP hD hS (lv_sub hl [0, 1, 2, 3] rfl)
  · refine lv_iload_n hx hb dX1_isStart_9 rfl (lv_at hl 2 rfl) ?_
    refine lv_iconst (v := 0) hx hb dX1_isStart_10 ci_0 ?_
    refine lv_iconst (v := 4) hx hb dX1_isStart_11 ci_4 ?_
    refine xc_i (wc := []) (wr := [(o, eRM r w I L)]) hP hD hS hA [] [0] rfl rfl rfl (by decide) (xrS ⟨hx, hb, hml, hown, hts⟩ hg (m_X1_in l D k _ li 0 4) hP hD [] rfl rfl trivial q469 q470 q83 q471 xo_X1_in ⟨rfl, rfl⟩ ⟨Nat.le_of_ble_eq_true rfl, Nat.le_of_ble_eq_true rfl⟩ hl.1 (Nat.le_of_ble_eq_true rfl) dX1_isStart_12 ⟨Nat.le_of_ble_eq_true rfl, Nat.le_of_ble_eq_true rfl⟩ rfl) (fun u14 r_ H locs hw hP hD hS hk => ?_)
    obtain ⟨rfl, eu14, bu14⟩ := hw
    replace hP : va_P D vwCl [(o, eRM r w I L)] H := hP.sub [0] rfl
    replace hD : va_D A [(o, eRM r w I L)] := hD.sub [0] (by decide) rfl
    refine lv_if_eq (tgt := 31) hx hb dX1_isStart_15 (by decide) (fun c15 => ?_) (fun c15 => ?_)
    · refine lv_iconst (v := 0) hx hb dX1_isStart_31 ci_0 ?_
      exact Jn1 0 _ _ _ (by subst eu14; exact Eq.symm (Eq.trans (if_neg c13) (Eq.trans (if_pos c15) (rfl)))) (Or.inl rfl) hP hD hS (lv_sub hl [0, 1, 2, 3] rfl)
    · refine lv_iload_n hx hb dX1_isStart_18 rfl (lv_at hl 3 rfl) ?_
      refine lv_iconst (v := 0) hx hb dX1_isStart_19 ci_0 ?_
      refine lv_iconst (v := 4) hx hb dX1_isStart_20 ci_4 ?_
      refine xc_i (wc := []) (wr := [(o, eRM r w I L)]) hP hD hS hA [] [0] rfl rfl rfl (by decide) (xrS ⟨hx, hb, hml, hown, hts⟩ hg (m_X1_in l D k _ fl 0 4) hP hD [] rfl rfl trivial q469 q470 q83 q471 xo_X1_in ⟨rfl, rfl⟩ ⟨Nat.le_of_ble_eq_true rfl, Nat.le_of_ble_eq_true rfl⟩ hl.1 (Nat.le_of_ble_eq_true rfl) dX1_isStart_21 ⟨Nat.le_of_ble_eq_true rfl, Nat.le_of_ble_eq_true rfl⟩ rfl) (fun u16 r_ H locs hw hP hD hS hk => ?_)
      obtain ⟨rfl, eu16, bu16⟩ := hw
      replace hP : va_P D vwCl [(o, eRM r w I L)] H := hP.sub [0] rfl
      replace hD : va_D A [(o, eRM r w I L)] := hD.sub [0] (by decide) rfl
      refine lv_if_eq (tgt := 31) hx hb dX1_isStart_24 (by decide) (fun c17 => ?_) (fun c17 => ?_)
      · refine lv_iconst (v := 0) hx hb dX1_isStart_31 ci_0 ?_
        exact Jn1 0 _ _ _ (by subst eu16; subst eu14; exact Eq.symm (Eq.trans (if_neg c13) (Eq.trans (if_neg c15) (Eq.trans (if_pos c17) (rfl))))) (Or.inl rfl) hP hD hS (lv_sub hl [0, 1, 2, 3] rfl)
      · refine lv_iconst (v := 1) hx hb dX1_isStart_27 ci_1 ?_
        refine lv_goto (tgt := 32) hx hb dX1_isStart_28 (by decide) ?_
        exact Jn1 1 _ _ _ (by subst eu16; subst eu14; exact Eq.symm (Eq.trans (if_neg c13) (Eq.trans (if_neg c15) (Eq.trans (if_neg c17) (rfl))))) (Or.inr rfl) hP hD hS (lv_sub hl [0, 1, 2, 3] rfl)

def f_X1_partOf_j1 (st : Int32) (wh : Int32) : (Int32) :=
  if wh = 0 then
    (st / 25)
  else
    if wh = 1 then
      ((st / 5) - (st / 5) / 5 * 5)
    else
      (st - st / 5 * 5)
def f_X1_partOf (st : Int32) (wh : Int32) : Int32 :=
  let v5 := f_X1_partOf_j1 st wh
  v5
abbrev q_X1_partOf (D : va_G) (k : KK) (st : Int32) (wh : Int32) (A : Nat → Prop) : Array Value → State → Outcome → State → Prop := va_Qi (fun (r_ : Int32) (u : Int32) => r_ = u ∧ u = f_X1_partOf st wh) (bx D (fun u => []) A) A
abbrev rm_X1_partOf : Room := { frames := 1, cells := 0, slots := 0, locals := 40 }
theorem xo_X1_partOf : xok yX1_partOf 2 := by unfold xok; decide +kernel
set_option maxHeartbeats 8000000 in
theorem m_X1_partOf (l : Launch) (D : va_G) (k : KK) (sz : Nat) (st : Int32) (wh : Int32)  : Met l yX1_partOf (ws_ yX1_partOf cX1_partOf 2 (some .int)) rm_X1_partOf (pcx D k [.int st, .int wh] sz [] (fun _ => True)) (q_X1_partOf D k st wh (va_A [] sz)) 0 0 (va_A [] sz) := by
  refine Met.start (Qc := q_X1_partOf D k st wh) (by decide) (Nat.le_of_ble_eq_true rfl) ?_
  intro p e s m below meth c A hx hb hr hlocks hml hown hin hts hg hP hD hA hAn hS hY hsz ls hl
  have hown : s.vm.findClass RX1 = some m.cls := hown
  have hl : lv_has ls 2 [(0, .int st), (1, .int wh)] := hl
  refine lv_iload_n hx hb dX1_partOf_0 rfl (lv_at hl 1 rfl) ?_
  have Jn1 : ∀ (v5 : (Int32)) (H : Heap) (locs : List Loc) (ls : Array Slot), v5 = f_X1_partOf_j1 st wh → va_P D vwCl [] H → va_D A [] → va_S A s.heap H locs → lv_has ls 2 [(0, .int st), (1, .int wh)] → W p l e rm_X1_partOf s m ([.int st, .int wh] : List Value).toArray below meth c H locs 0 0 (MQ below (q_X1_partOf D k st wh A) ([.int st, .int wh] : List Value).toArray s 0 0 A) (F0 m 27 ls [.int v5]) := by
    intro v5 H locs ls ev5 hP hD hS hl
    exact xret_i hx hb hr hlocks (Nat.le_of_ble_eq_true rfl) (Nat.le_of_ble_eq_true rfl) hS.2.2 dX1_partOf_27 (fun t ht => ⟨⟨v5, v5, rfl, ⟨rfl, (by subst ev5; exact rfl)⟩, by rw [ht]; exact hP, hD⟩, hS.F ht⟩)
  refine lv_if_ne (tgt := 11) hx hb dX1_partOf_1 (by decide) (fun c6 => ?_) (fun c6 => ?_)
  · refine lv_iload_n hx hb dX1_partOf_11 rfl (lv_at hl 1 rfl) ?_
    refine lv_iconst (v := 1) hx hb dX1_partOf_12 ci_1 ?_
    refine lv_icmp_ne (tgt := 24) hx hb dX1_partOf_13 (by decide) (fun c7 => ?_) (fun c7 => ?_)
    · refine lv_iload_n hx hb dX1_partOf_24 rfl (lv_at hl 0 rfl) ?_
      refine lv_iconst (v := 5) hx hb dX1_partOf_25 ci_5 ?_
      refine lv_irem hx hb dX1_partOf_26 (by decide) ?_
      exact Jn1 (st - st / 5 * 5) _ _ _ (by exact Eq.symm (Eq.trans (if_neg c6) (Eq.trans (if_neg c7) (rfl)))) hP hD hS (lv_sub hl [0, 1] rfl)
    · refine lv_iload_n hx hb dX1_partOf_16 rfl (lv_at hl 0 rfl) ?_
      refine lv_iconst (v := 5) hx hb dX1_partOf_17 ci_5 ?_
      refine lv_idiv hx hb dX1_partOf_18 (by decide) ?_
      refine lv_iconst (v := 5) hx hb dX1_partOf_19 ci_5 ?_
      refine lv_irem hx hb dX1_partOf_20 (by decide) ?_
      refine lv_goto (tgt := 27) hx hb dX1_partOf_21 (by decide) ?_
      exact Jn1 ((st / 5) - (st / 5) / 5 * 5) _ _ _ (by exact Eq.symm (Eq.trans (if_neg c6) (Eq.trans (if_pos c7) (rfl)))) hP hD hS (lv_sub hl [0, 1] rfl)
  · refine lv_iload_n hx hb dX1_partOf_4 rfl (lv_at hl 0 rfl) ?_
    refine lv_bipush (v := 25) hx hb dX1_partOf_5 cb_25 ?_
    refine lv_idiv hx hb dX1_partOf_7 (by decide) ?_
    refine lv_goto (tgt := 27) hx hb dX1_partOf_8 (by decide) ?_
    exact Jn1 (st / 25) _ _ _ (by exact Eq.symm (Eq.trans (if_pos c6) (rfl))) hP hD hS (lv_sub hl [0, 1] rfl)

def f_X1_rate_j1 (pl : Nat → Int32) (x : Int32) (u1 : Int32) : (Int32) :=
  if u1 = 0 then
    (-1)
  else
    (pl x.toNatClampNeg)
def f_X1_rate (I : Nat → Int32) (pl : Nat → Int32) (x : Int32) : Int32 :=
  let u1 := f_X1_in x 0 ((I 23) - 1)
  let v4 := f_X1_rate_j1 pl x u1
  v4
abbrev q_X1_rate (D : va_G) (k : KK) (o : Nat) (r : Nat → Nat) (I : Nat → Int32) (L : Nat → Int64) (w : Value) (pl : Nat → Int32) (x : Int32) (pn : Nat) (A : Nat → Prop) : Array Value → State → Outcome → State → Prop := va_Qi (fun (r_ : Int32) (u : Int32) => r_ = u ∧ u = f_X1_rate I pl x) (bx D (fun u => [(o, eRM r w I L), ((r 25), aI k 5 pl)]) A) A
abbrev rm_X1_rate : Room := { frames := 3, cells := 0, slots := 0, locals := 120 }
theorem xo_X1_rate : xok yX1_rate 1 := by unfold xok; decide +kernel
set_option maxHeartbeats 8000000 in
theorem m_X1_rate (l : Launch) (D : va_G) (k : KK) (sz : Nat) (o : Nat) (r : Nat → Nat) (I : Nat → Int32) (L : Nat → Int64) (w : Value) (pl : Nat → Int32) (x : Int32) (pn : Nat) (hpn : I 23 = nI pn) (hp5 : pn ≤ 5) : Met l yX1_rate (ws_ yX1_rate cX1_rate 2 (some .int)) rm_X1_rate (pcx D k [.ref o, .int x] sz [(o, eRM r w I L), ((r 25), aI k 5 pl)] (fun _ => True)) (q_X1_rate D k o r I L w pl x pn (va_A [(o, eRM r w I L), ((r 25), aI k 5 pl)] sz)) 0 0 (va_A [(o, eRM r w I L), ((r 25), aI k 5 pl)] sz) := by
  refine Met.start (Qc := q_X1_rate D k o r I L w pl x pn) (by decide) (Nat.le_of_ble_eq_true rfl) ?_
  intro p e s m below meth c A hx hb hr hlocks hml hown hin hts hg hP hD hA hAn hS hY hsz ls hl
  have hown : s.vm.findClass RX1 = some m.cls := hown
  have hl : lv_has ls 2 [(0, .ref o), (1, .int x)] := hl
  refine lv_iload_n hx hb dX1_rate_0 rfl (lv_at hl 1 rfl) ?_
  refine lv_iconst (v := 0) hx hb dX1_rate_1 ci_0 ?_
  refine lv_aload_n hx hb dX1_rate_2 rfl (lv_at hl 0 rfl) ?_
  refine va_get (D := D) (ci := 0) (v := .int (I 23)) (C := RX1) (T := TX1) (N := 29) hx hb hts in_X1 hown hg.1 hP 0 rfl rfl 23 (Nat.le_of_ble_eq_true rfl) (hts _ q387) (fun _ h9 => h9) rfl dX1_rate_3 ?_
  refine lv_iconst (v := 1) hx hb dX1_rate_6 ci_1 ?_
  refine lv_isub hx hb dX1_rate_7 ?_
  refine xc_i (wc := []) (wr := [(o, eRM r w I L), ((r 25), aI k 5 pl)]) hP hD hS hA [] [0, 1] rfl rfl rfl (by decide) (xrS ⟨hx, hb, hml, hown, hts⟩ hg (m_X1_in l D k _ x 0 ((I 23) - 1)) hP hD [] rfl rfl trivial q469 q470 q83 q471 xo_X1_in ⟨rfl, rfl⟩ ⟨Nat.le_of_ble_eq_true rfl, Nat.le_of_ble_eq_true rfl⟩ hl.1 (Nat.le_of_ble_eq_true rfl) dX1_rate_8 ⟨Nat.le_of_ble_eq_true rfl, Nat.le_of_ble_eq_true rfl⟩ rfl) (fun u1 r_ H locs hw hP hD hS hk => ?_)
  obtain ⟨rfl, eu1, bu1⟩ := hw
  replace hP : va_P D vwCl [(o, eRM r w I L), ((r 25), aI k 5 pl)] H := hP.sub [0, 1] rfl
  replace hD : va_D A [(o, eRM r w I L), ((r 25), aI k 5 pl)] := hD.sub [0, 1] (by decide) rfl
  have Jn1 : ∀ (v4 : (Int32)) (H : Heap) (locs : List Loc) (ls : Array Slot), v4 = f_X1_rate_j1 pl x u1 → va_P D vwCl [(o, eRM r w I L), ((r 25), aI k 5 pl)] H → va_D A [(o, eRM r w I L), ((r 25), aI k 5 pl)] → va_S A s.heap H locs → lv_has ls 2 [(0, .ref o), (1, .int x)] → W p l e rm_X1_rate s m ([.ref o, .int x] : List Value).toArray below meth c H locs 0 0 (MQ below (q_X1_rate D k o r I L w pl x pn A) ([.ref o, .int x] : List Value).toArray s 0 0 A) (F0 m 24 ls [.int v4]) := by
    intro v4 H locs ls ev4 hP hD hS hl
    exact xret_i hx hb hr hlocks (Nat.le_of_ble_eq_true rfl) (Nat.le_of_ble_eq_true rfl) hS.2.2 dX1_rate_24 (fun t ht => ⟨⟨v4, v4, rfl, ⟨rfl, (by subst ev4; subst eu1; exact rfl)⟩, by rw [ht]; exact hP, hD⟩, hS.F ht⟩)
  refine lv_if_eq (tgt := 23) hx hb dX1_rate_11 (by decide) (fun c5 => ?_) (fun c5 => ?_)
  · refine lv_iconst (v := (-1)) hx hb dX1_rate_23 ci_m1 ?_
    exact Jn1 (-1) _ _ _ (by exact Eq.symm (Eq.trans (if_pos c5) (rfl))) hP hD hS (lv_sub hl [0, 1] rfl)
  · have hp0 : 1 ≤ pn := c_in_pos hpn (fun h => c5 (eu1.trans h))
    obtain ⟨hn_x, hb_x⟩ := c_in0 (xnsub hpn xl_1 hp0) (by omega) (fun h => c5 (eu1.trans h))
    refine lv_aload_n hx hb dX1_rate_14 rfl (lv_at hl 0 rfl) ?_
    refine va_get (D := D) (ci := 0) (v := .ref (r 25)) (C := RX1) (T := TX1) (N := 29) hx hb hts in_X1 hown hg.1 hP 0 rfl rfl 25 (Nat.le_of_ble_eq_true rfl) (hts _ q389) (fun _ h9 => h9) rfl dX1_rate_15 ?_
    refine lv_iload_n hx hb dX1_rate_18 rfl (lv_at hl 1 rfl) ?_
    refine xa_iald hx hb hg hP 1 rfl hn_x (by first | omega | exact Nat.lt_of_lt_of_le (Nat.mod_lt _ (by omega)) (by omega)) (by omega) dX1_rate_19 ?_
    refine lv_goto (tgt := 24) hx hb dX1_rate_20 (by decide) ?_
    exact Jn1 (pl x.toNatClampNeg) _ _ _ (by exact Eq.symm (Eq.trans (if_neg c5) (rfl))) hP hD hS (lv_sub hl [0, 1] rfl)

def f_X1_size (I : Nat → Int32) (x : Int32) (WI : Nat → Int32) : Int32 :=
  if x = 11 then
    (I 1)
  else
    if x = 0 then
      (WI 3)
    else
      if x = 1 then
        (WI 4)
      else
        if x = 2 then
          (WI 6)
        else
          if x = 3 then
            (WI 7)
          else
            if x = 4 then
              (WI 8)
            else
              if x = 5 then
                (WI 9)
              else
                if x = 6 then
                  (WI 10)
                else
                  if x = 7 then
                    (WI 11)
                  else
                    if x = 8 then
                      (WI 12)
                    else
                      if x = 9 then
                        (WI 5)
                      else
                        if x = 10 then
                          (I 18)
                        else
                          (-1)
abbrev q_X1_size (D : va_G) (k : KK) (o : Nat) (r : Nat → Nat) (I : Nat → Int32) (L : Nat → Int64) (x : Int32) (wa : Nat) (wd : WAd) (WI : Nat → Int32) (pr : Nat → Int32) (SI : Nat → Nat → Int32) (OI : Nat → Nat → Int32) (tn : Nat → Nat → Int32) (nS : Nat) (nO : Nat) (A : Nat → Prop) : Array Value → State → Outcome → State → Prop := va_Qi (fun (r_ : Int32) (u : Int32) => r_ = u ∧ u = f_X1_size I x WI) (bx D (fun u => [(o, eRM r (.ref wa) I L)]) A) A
abbrev rm_X1_size : Room := { frames := 2, cells := 0, slots := 0, locals := 80 }
theorem xo_X1_size : xok yX1_size 1 := by unfold xok; decide +kernel
set_option maxHeartbeats 8000000 in
theorem m_X1_size (l : Launch) (D : va_G) (k : KK) (sz : Nat) (o : Nat) (r : Nat → Nat) (I : Nat → Int32) (L : Nat → Int64) (x : Int32) (wa : Nat) (wd : WAd) (WI : Nat → Int32) (pr : Nat → Int32) (SI : Nat → Nat → Int32) (OI : Nat → Nat → Int32) (tn : Nat → Nat → Int32) (nS : Nat) (nO : Nat) (hnS : WI 3 = nI nS) (hnO : WI 4 = nI nO) (hS2 : 2 ≤ nS) (hS5 : nS ≤ 5) (hO4 : nO ≤ 4) : Met l yX1_size (ws_ yX1_size cX1_size 2 (some .int)) rm_X1_size (pcx D k [.ref o, .int x] sz [(o, eRM r (.ref wa) I L)] (wkY D k wa wd WI pr SI OI tn nS nO (va_A [(o, eRM r (.ref wa) I L)] sz))) (q_X1_size D k o r I L x wa wd WI pr SI OI tn nS nO (va_A [(o, eRM r (.ref wa) I L)] sz)) 0 0 (va_A [(o, eRM r (.ref wa) I L)] sz) := by
  refine Met.start (Qc := q_X1_size D k o r I L x wa wd WI pr SI OI tn nS nO) (by decide) (Nat.le_of_ble_eq_true rfl) ?_
  intro p e s m below meth c A hx hb hr hlocks hml hown hin hts hg hP hD hA hAn hS hY hsz ls hl
  have hown : s.vm.findClass RX1 = some m.cls := hown
  have hl : lv_has ls 2 [(0, .ref o), (1, .int x)] := hl
  have hW := wkY.mono hY hAn
  refine lv_iload_n hx hb dX1_size_0 rfl (lv_at hl 1 rfl) ?_
  refine lv_bipush (v := 11) hx hb dX1_size_1 cb_11 ?_
  refine lv_icmp_ne (tgt := 11) hx hb dX1_size_3 (by decide) (fun c1 => ?_) (fun c1 => ?_)
  · refine lv_aload_n hx hb dX1_size_11 rfl (lv_at hl 0 rfl) ?_
    refine va_get (D := D) (ci := 0) (v := .ref wa) (C := RX1) (T := TX1) (N := 29) hx hb hts in_X1 hown hg.1 hP 0 rfl rfl 3 (Nat.le_of_ble_eq_true rfl) (hts _ q367) (fun _ h9 => h9) rfl dX1_size_12 ?_
    refine lv_ifnonnull (tgt := 34) hx hb dX1_size_15 (by decide) ?_
    refine lv_iload_n hx hb dX1_size_34 rfl (lv_at hl 1 rfl) ?_
    by_cases c2 : x = 0
    · refine lv_tableIn (off := 57) (tgt := 92) hx hb dX1_size_35 (by rw [c2]; decide) (by rw [c2]; decide) (by rw [c2]; decide) (by decide) ?_
      refine lv_aload_n hx hb dX1_size_92 rfl (lv_at hl 0 rfl) ?_
      refine va_get (D := D) (ci := 0) (v := .ref wa) (C := RX1) (T := TX1) (N := 29) hx hb hts in_X1 hown hg.1 hP 0 rfl rfl 3 (Nat.le_of_ble_eq_true rfl) (hts _ q367) (fun _ h9 => h9) rfl dX1_size_93 ?_
      refine va_get (D := D) (ci := 7) (v := .int (WI 3)) (C := RX9) (T := TX9) (N := 13) hx hb hts in_X9 hown hg.1 (wkat hW hS).1 0 rfl rfl 3 (Nat.le_of_ble_eq_true rfl) (hts _ q503) (fun _ h9 => h9) rfl dX1_size_96 ?_
      exact xret_i hx hb hr hlocks (Nat.le_of_ble_eq_true rfl) (Nat.le_of_ble_eq_true rfl) hS.2.2 dX1_size_99 (fun t ht => ⟨⟨(WI 3), (WI 3), rfl, ⟨rfl, (by exact Eq.symm (Eq.trans (if_neg c1) (Eq.trans (if_pos c2) (rfl))))⟩, by rw [ht]; exact hP, hD⟩, hS.F ht⟩)
    · by_cases c3 : x = 1
      · refine lv_tableIn (off := 65) (tgt := 100) hx hb dX1_size_35 (by rw [c3]; decide) (by rw [c3]; decide) (by rw [c3]; decide) (by decide) ?_
        refine lv_aload_n hx hb dX1_size_100 rfl (lv_at hl 0 rfl) ?_
        refine va_get (D := D) (ci := 0) (v := .ref wa) (C := RX1) (T := TX1) (N := 29) hx hb hts in_X1 hown hg.1 hP 0 rfl rfl 3 (Nat.le_of_ble_eq_true rfl) (hts _ q367) (fun _ h9 => h9) rfl dX1_size_101 ?_
        refine va_get (D := D) (ci := 7) (v := .int (WI 4)) (C := RX9) (T := TX9) (N := 13) hx hb hts in_X9 hown hg.1 (wkat hW hS).1 0 rfl rfl 4 (Nat.le_of_ble_eq_true rfl) (hts _ q506) (fun _ h9 => h9) rfl dX1_size_104 ?_
        exact xret_i hx hb hr hlocks (Nat.le_of_ble_eq_true rfl) (Nat.le_of_ble_eq_true rfl) hS.2.2 dX1_size_107 (fun t ht => ⟨⟨(WI 4), (WI 4), rfl, ⟨rfl, (by exact Eq.symm (Eq.trans (if_neg c1) (Eq.trans (if_neg c2) (Eq.trans (if_pos c3) (rfl)))))⟩, by rw [ht]; exact hP, hD⟩, hS.F ht⟩)
      · by_cases c4 : x = 2
        · refine lv_tableIn (off := 73) (tgt := 108) hx hb dX1_size_35 (by rw [c4]; decide) (by rw [c4]; decide) (by rw [c4]; decide) (by decide) ?_
          refine lv_aload_n hx hb dX1_size_108 rfl (lv_at hl 0 rfl) ?_
          refine va_get (D := D) (ci := 0) (v := .ref wa) (C := RX1) (T := TX1) (N := 29) hx hb hts in_X1 hown hg.1 hP 0 rfl rfl 3 (Nat.le_of_ble_eq_true rfl) (hts _ q367) (fun _ h9 => h9) rfl dX1_size_109 ?_
          refine va_get (D := D) (ci := 7) (v := .int (WI 6)) (C := RX9) (T := TX9) (N := 13) hx hb hts in_X9 hown hg.1 (wkat hW hS).1 0 rfl rfl 6 (Nat.le_of_ble_eq_true rfl) (hts _ q515) (fun _ h9 => h9) rfl dX1_size_112 ?_
          exact xret_i hx hb hr hlocks (Nat.le_of_ble_eq_true rfl) (Nat.le_of_ble_eq_true rfl) hS.2.2 dX1_size_115 (fun t ht => ⟨⟨(WI 6), (WI 6), rfl, ⟨rfl, (by exact Eq.symm (Eq.trans (if_neg c1) (Eq.trans (if_neg c2) (Eq.trans (if_neg c3) (Eq.trans (if_pos c4) (rfl))))))⟩, by rw [ht]; exact hP, hD⟩, hS.F ht⟩)
        · by_cases c5 : x = 3
          · refine lv_tableIn (off := 81) (tgt := 116) hx hb dX1_size_35 (by rw [c5]; decide) (by rw [c5]; decide) (by rw [c5]; decide) (by decide) ?_
            refine lv_aload_n hx hb dX1_size_116 rfl (lv_at hl 0 rfl) ?_
            refine va_get (D := D) (ci := 0) (v := .ref wa) (C := RX1) (T := TX1) (N := 29) hx hb hts in_X1 hown hg.1 hP 0 rfl rfl 3 (Nat.le_of_ble_eq_true rfl) (hts _ q367) (fun _ h9 => h9) rfl dX1_size_117 ?_
            refine va_get (D := D) (ci := 7) (v := .int (WI 7)) (C := RX9) (T := TX9) (N := 13) hx hb hts in_X9 hown hg.1 (wkat hW hS).1 0 rfl rfl 7 (Nat.le_of_ble_eq_true rfl) (hts _ q518) (fun _ h9 => h9) rfl dX1_size_120 ?_
            exact xret_i hx hb hr hlocks (Nat.le_of_ble_eq_true rfl) (Nat.le_of_ble_eq_true rfl) hS.2.2 dX1_size_123 (fun t ht => ⟨⟨(WI 7), (WI 7), rfl, ⟨rfl, (by exact Eq.symm (Eq.trans (if_neg c1) (Eq.trans (if_neg c2) (Eq.trans (if_neg c3) (Eq.trans (if_neg c4) (Eq.trans (if_pos c5) (rfl)))))))⟩, by rw [ht]; exact hP, hD⟩, hS.F ht⟩)
          · by_cases c6 : x = 4
            · refine lv_tableIn (off := 89) (tgt := 124) hx hb dX1_size_35 (by rw [c6]; decide) (by rw [c6]; decide) (by rw [c6]; decide) (by decide) ?_
              refine lv_aload_n hx hb dX1_size_124 rfl (lv_at hl 0 rfl) ?_
              refine va_get (D := D) (ci := 0) (v := .ref wa) (C := RX1) (T := TX1) (N := 29) hx hb hts in_X1 hown hg.1 hP 0 rfl rfl 3 (Nat.le_of_ble_eq_true rfl) (hts _ q367) (fun _ h9 => h9) rfl dX1_size_125 ?_
              refine va_get (D := D) (ci := 7) (v := .int (WI 8)) (C := RX9) (T := TX9) (N := 13) hx hb hts in_X9 hown hg.1 (wkat hW hS).1 0 rfl rfl 8 (Nat.le_of_ble_eq_true rfl) (hts _ q523) (fun _ h9 => h9) rfl dX1_size_128 ?_
              exact xret_i hx hb hr hlocks (Nat.le_of_ble_eq_true rfl) (Nat.le_of_ble_eq_true rfl) hS.2.2 dX1_size_131 (fun t ht => ⟨⟨(WI 8), (WI 8), rfl, ⟨rfl, (by exact Eq.symm (Eq.trans (if_neg c1) (Eq.trans (if_neg c2) (Eq.trans (if_neg c3) (Eq.trans (if_neg c4) (Eq.trans (if_neg c5) (Eq.trans (if_pos c6) (rfl))))))))⟩, by rw [ht]; exact hP, hD⟩, hS.F ht⟩)
            · by_cases c7 : x = 5
              · refine lv_tableIn (off := 97) (tgt := 132) hx hb dX1_size_35 (by rw [c7]; decide) (by rw [c7]; decide) (by rw [c7]; decide) (by decide) ?_
                refine lv_aload_n hx hb dX1_size_132 rfl (lv_at hl 0 rfl) ?_
                refine va_get (D := D) (ci := 0) (v := .ref wa) (C := RX1) (T := TX1) (N := 29) hx hb hts in_X1 hown hg.1 hP 0 rfl rfl 3 (Nat.le_of_ble_eq_true rfl) (hts _ q367) (fun _ h9 => h9) rfl dX1_size_133 ?_
                refine va_get (D := D) (ci := 7) (v := .int (WI 9)) (C := RX9) (T := TX9) (N := 13) hx hb hts in_X9 hown hg.1 (wkat hW hS).1 0 rfl rfl 9 (Nat.le_of_ble_eq_true rfl) (hts _ q527) (fun _ h9 => h9) rfl dX1_size_136 ?_
                exact xret_i hx hb hr hlocks (Nat.le_of_ble_eq_true rfl) (Nat.le_of_ble_eq_true rfl) hS.2.2 dX1_size_139 (fun t ht => ⟨⟨(WI 9), (WI 9), rfl, ⟨rfl, (by exact Eq.symm (Eq.trans (if_neg c1) (Eq.trans (if_neg c2) (Eq.trans (if_neg c3) (Eq.trans (if_neg c4) (Eq.trans (if_neg c5) (Eq.trans (if_neg c6) (Eq.trans (if_pos c7) (rfl)))))))))⟩, by rw [ht]; exact hP, hD⟩, hS.F ht⟩)
              · by_cases c8 : x = 6
                · refine lv_tableIn (off := 105) (tgt := 140) hx hb dX1_size_35 (by rw [c8]; decide) (by rw [c8]; decide) (by rw [c8]; decide) (by decide) ?_
                  refine lv_aload_n hx hb dX1_size_140 rfl (lv_at hl 0 rfl) ?_
                  refine va_get (D := D) (ci := 0) (v := .ref wa) (C := RX1) (T := TX1) (N := 29) hx hb hts in_X1 hown hg.1 hP 0 rfl rfl 3 (Nat.le_of_ble_eq_true rfl) (hts _ q367) (fun _ h9 => h9) rfl dX1_size_141 ?_
                  refine va_get (D := D) (ci := 7) (v := .int (WI 10)) (C := RX9) (T := TX9) (N := 13) hx hb hts in_X9 hown hg.1 (wkat hW hS).1 0 rfl rfl 10 (Nat.le_of_ble_eq_true rfl) (hts _ q531) (fun _ h9 => h9) rfl dX1_size_144 ?_
                  exact xret_i hx hb hr hlocks (Nat.le_of_ble_eq_true rfl) (Nat.le_of_ble_eq_true rfl) hS.2.2 dX1_size_147 (fun t ht => ⟨⟨(WI 10), (WI 10), rfl, ⟨rfl, (by exact Eq.symm (Eq.trans (if_neg c1) (Eq.trans (if_neg c2) (Eq.trans (if_neg c3) (Eq.trans (if_neg c4) (Eq.trans (if_neg c5) (Eq.trans (if_neg c6) (Eq.trans (if_neg c7) (Eq.trans (if_pos c8) (rfl))))))))))⟩, by rw [ht]; exact hP, hD⟩, hS.F ht⟩)
                · by_cases c9 : x = 7
                  · refine lv_tableIn (off := 113) (tgt := 148) hx hb dX1_size_35 (by rw [c9]; decide) (by rw [c9]; decide) (by rw [c9]; decide) (by decide) ?_
                    refine lv_aload_n hx hb dX1_size_148 rfl (lv_at hl 0 rfl) ?_
                    refine va_get (D := D) (ci := 0) (v := .ref wa) (C := RX1) (T := TX1) (N := 29) hx hb hts in_X1 hown hg.1 hP 0 rfl rfl 3 (Nat.le_of_ble_eq_true rfl) (hts _ q367) (fun _ h9 => h9) rfl dX1_size_149 ?_
                    refine va_get (D := D) (ci := 7) (v := .int (WI 11)) (C := RX9) (T := TX9) (N := 13) hx hb hts in_X9 hown hg.1 (wkat hW hS).1 0 rfl rfl 11 (Nat.le_of_ble_eq_true rfl) (hts _ q535) (fun _ h9 => h9) rfl dX1_size_152 ?_
                    exact xret_i hx hb hr hlocks (Nat.le_of_ble_eq_true rfl) (Nat.le_of_ble_eq_true rfl) hS.2.2 dX1_size_155 (fun t ht => ⟨⟨(WI 11), (WI 11), rfl, ⟨rfl, (by exact Eq.symm (Eq.trans (if_neg c1) (Eq.trans (if_neg c2) (Eq.trans (if_neg c3) (Eq.trans (if_neg c4) (Eq.trans (if_neg c5) (Eq.trans (if_neg c6) (Eq.trans (if_neg c7) (Eq.trans (if_neg c8) (Eq.trans (if_pos c9) (rfl)))))))))))⟩, by rw [ht]; exact hP, hD⟩, hS.F ht⟩)
                  · by_cases c10 : x = 8
                    · refine lv_tableIn (off := 121) (tgt := 156) hx hb dX1_size_35 (by rw [c10]; decide) (by rw [c10]; decide) (by rw [c10]; decide) (by decide) ?_
                      refine lv_aload_n hx hb dX1_size_156 rfl (lv_at hl 0 rfl) ?_
                      refine va_get (D := D) (ci := 0) (v := .ref wa) (C := RX1) (T := TX1) (N := 29) hx hb hts in_X1 hown hg.1 hP 0 rfl rfl 3 (Nat.le_of_ble_eq_true rfl) (hts _ q367) (fun _ h9 => h9) rfl dX1_size_157 ?_
                      refine va_get (D := D) (ci := 7) (v := .int (WI 12)) (C := RX9) (T := TX9) (N := 13) hx hb hts in_X9 hown hg.1 (wkat hW hS).1 0 rfl rfl 12 (Nat.le_of_ble_eq_true rfl) (hts _ q539) (fun _ h9 => h9) rfl dX1_size_160 ?_
                      exact xret_i hx hb hr hlocks (Nat.le_of_ble_eq_true rfl) (Nat.le_of_ble_eq_true rfl) hS.2.2 dX1_size_163 (fun t ht => ⟨⟨(WI 12), (WI 12), rfl, ⟨rfl, (by exact Eq.symm (Eq.trans (if_neg c1) (Eq.trans (if_neg c2) (Eq.trans (if_neg c3) (Eq.trans (if_neg c4) (Eq.trans (if_neg c5) (Eq.trans (if_neg c6) (Eq.trans (if_neg c7) (Eq.trans (if_neg c8) (Eq.trans (if_neg c9) (Eq.trans (if_pos c10) (rfl))))))))))))⟩, by rw [ht]; exact hP, hD⟩, hS.F ht⟩)
                    · by_cases c11 : x = 9
                      · refine lv_tableIn (off := 129) (tgt := 164) hx hb dX1_size_35 (by rw [c11]; decide) (by rw [c11]; decide) (by rw [c11]; decide) (by decide) ?_
                        refine lv_aload_n hx hb dX1_size_164 rfl (lv_at hl 0 rfl) ?_
                        refine va_get (D := D) (ci := 0) (v := .ref wa) (C := RX1) (T := TX1) (N := 29) hx hb hts in_X1 hown hg.1 hP 0 rfl rfl 3 (Nat.le_of_ble_eq_true rfl) (hts _ q367) (fun _ h9 => h9) rfl dX1_size_165 ?_
                        refine va_get (D := D) (ci := 7) (v := .int (WI 5)) (C := RX9) (T := TX9) (N := 13) hx hb hts in_X9 hown hg.1 (wkat hW hS).1 0 rfl rfl 5 (Nat.le_of_ble_eq_true rfl) (hts _ q511) (fun _ h9 => h9) rfl dX1_size_168 ?_
                        exact xret_i hx hb hr hlocks (Nat.le_of_ble_eq_true rfl) (Nat.le_of_ble_eq_true rfl) hS.2.2 dX1_size_171 (fun t ht => ⟨⟨(WI 5), (WI 5), rfl, ⟨rfl, (by exact Eq.symm (Eq.trans (if_neg c1) (Eq.trans (if_neg c2) (Eq.trans (if_neg c3) (Eq.trans (if_neg c4) (Eq.trans (if_neg c5) (Eq.trans (if_neg c6) (Eq.trans (if_neg c7) (Eq.trans (if_neg c8) (Eq.trans (if_neg c9) (Eq.trans (if_neg c10) (Eq.trans (if_pos c11) (rfl)))))))))))))⟩, by rw [ht]; exact hP, hD⟩, hS.F ht⟩)
                      · by_cases c12 : x = 10
                        · refine lv_tableIn (off := 137) (tgt := 172) hx hb dX1_size_35 (by rw [c12]; decide) (by rw [c12]; decide) (by rw [c12]; decide) (by decide) ?_
                          refine lv_aload_n hx hb dX1_size_172 rfl (lv_at hl 0 rfl) ?_
                          refine va_get (D := D) (ci := 0) (v := .int (I 18)) (C := RX1) (T := TX1) (N := 29) hx hb hts in_X1 hown hg.1 hP 0 rfl rfl 18 (Nat.le_of_ble_eq_true rfl) (hts _ q382) (fun _ h9 => h9) rfl dX1_size_173 ?_
                          exact xret_i hx hb hr hlocks (Nat.le_of_ble_eq_true rfl) (Nat.le_of_ble_eq_true rfl) hS.2.2 dX1_size_176 (fun t ht => ⟨⟨(I 18), (I 18), rfl, ⟨rfl, (by exact Eq.symm (Eq.trans (if_neg c1) (Eq.trans (if_neg c2) (Eq.trans (if_neg c3) (Eq.trans (if_neg c4) (Eq.trans (if_neg c5) (Eq.trans (if_neg c6) (Eq.trans (if_neg c7) (Eq.trans (if_neg c8) (Eq.trans (if_neg c9) (Eq.trans (if_neg c10) (Eq.trans (if_neg c11) (Eq.trans (if_pos c12) (rfl))))))))))))))⟩, by rw [ht]; exact hP, hD⟩, hS.F ht⟩)
                        · refine lv_tableOut (tgt := 177) hx hb dX1_size_35 (by have h0_ := lv_neT c2 (show (0 : Int32).toInt = 0 from by decide); have h1_ := lv_neT c3 (show (1 : Int32).toInt = 1 from by decide); have h2_ := lv_neT c4 (show (2 : Int32).toInt = 2 from by decide); have h3_ := lv_neT c5 (show (3 : Int32).toInt = 3 from by decide); have h4_ := lv_neT c6 (show (4 : Int32).toInt = 4 from by decide); have h5_ := lv_neT c7 (show (5 : Int32).toInt = 5 from by decide); have h6_ := lv_neT c8 (show (6 : Int32).toInt = 6 from by decide); have h7_ := lv_neT c9 (show (7 : Int32).toInt = 7 from by decide); have h8_ := lv_neT c10 (show (8 : Int32).toInt = 8 from by decide); have h9_ := lv_neT c11 (show (9 : Int32).toInt = 9 from by decide); have h10_ := lv_neT c12 (show (10 : Int32).toInt = 10 from by decide); omega) (by decide) ?_
                          refine lv_iconst (v := (-1)) hx hb dX1_size_177 ci_m1 ?_
                          exact xret_i hx hb hr hlocks (Nat.le_of_ble_eq_true rfl) (Nat.le_of_ble_eq_true rfl) hS.2.2 dX1_size_178 (fun t ht => ⟨⟨(-1), (-1), rfl, ⟨rfl, (by exact Eq.symm (Eq.trans (if_neg c1) (Eq.trans (if_neg c2) (Eq.trans (if_neg c3) (Eq.trans (if_neg c4) (Eq.trans (if_neg c5) (Eq.trans (if_neg c6) (Eq.trans (if_neg c7) (Eq.trans (if_neg c8) (Eq.trans (if_neg c9) (Eq.trans (if_neg c10) (Eq.trans (if_neg c11) (Eq.trans (if_neg c12) (rfl))))))))))))))⟩, by rw [ht]; exact hP, hD⟩, hS.F ht⟩)
  · refine lv_aload_n hx hb dX1_size_6 rfl (lv_at hl 0 rfl) ?_
    refine va_get (D := D) (ci := 0) (v := .int (I 1)) (C := RX1) (T := TX1) (N := 29) hx hb hts in_X1 hown hg.1 hP 0 rfl rfl 1 (Nat.le_of_ble_eq_true rfl) (hts _ q365) (fun _ h9 => h9) rfl dX1_size_7 ?_
    exact xret_i hx hb hr hlocks (Nat.le_of_ble_eq_true rfl) (Nat.le_of_ble_eq_true rfl) hS.2.2 dX1_size_10 (fun t ht => ⟨⟨(I 1), (I 1), rfl, ⟨rfl, (by exact Eq.symm (Eq.trans (if_pos c1) (rfl)))⟩, by rw [ht]; exact hP, hD⟩, hS.F ht⟩)

def f_X1_sizeN_j1 (u2 : Int32) : (Int32) :=
  if u2 = 0 then
    (-1)
  else
    0
def f_X1_sizeN (I : Nat → Int32) (x : Int32) : Int32 :=
  if x = 11 then
    (I 1)
  else
    let u2 := f_X1_in x 0 10
    let v5 := f_X1_sizeN_j1 u2
    v5
abbrev q_X1_sizeN (D : va_G) (k : KK) (o : Nat) (r : Nat → Nat) (I : Nat → Int32) (L : Nat → Int64) (x : Int32) (A : Nat → Prop) : Array Value → State → Outcome → State → Prop := va_Qi (fun (r_ : Int32) (u : Int32) => r_ = u ∧ u = f_X1_sizeN I x) (bx D (fun u => [(o, eRM r .null I L)]) A) A
abbrev rm_X1_sizeN : Room := { frames := 2, cells := 0, slots := 0, locals := 80 }
set_option maxHeartbeats 8000000 in
theorem m_X1_sizeN (l : Launch) (D : va_G) (k : KK) (sz : Nat) (o : Nat) (r : Nat → Nat) (I : Nat → Int32) (L : Nat → Int64) (x : Int32)  : Met l yX1_size (ws_ yX1_size cX1_size 2 (some .int)) rm_X1_sizeN (pcx D k [.ref o, .int x] sz [(o, eRM r .null I L)] (fun _ => True)) (q_X1_sizeN D k o r I L x (va_A [(o, eRM r .null I L)] sz)) 0 0 (va_A [(o, eRM r .null I L)] sz) := by
  refine Met.start (Qc := q_X1_sizeN D k o r I L x) (by decide) (Nat.le_of_ble_eq_true rfl) ?_
  intro p e s m below meth c A hx hb hr hlocks hml hown hin hts hg hP hD hA hAn hS hY hsz ls hl
  have hown : s.vm.findClass RX1 = some m.cls := hown
  have hl : lv_has ls 2 [(0, .ref o), (1, .int x)] := hl
  refine lv_iload_n hx hb dX1_size_0 rfl (lv_at hl 1 rfl) ?_
  refine lv_bipush (v := 11) hx hb dX1_size_1 cb_11 ?_
  refine lv_icmp_ne (tgt := 11) hx hb dX1_size_3 (by decide) (fun c1 => ?_) (fun c1 => ?_)
  · refine lv_aload_n hx hb dX1_size_11 rfl (lv_at hl 0 rfl) ?_
    refine va_get (D := D) (ci := 0) (v := .null) (C := RX1) (T := TX1) (N := 29) hx hb hts in_X1 hown hg.1 hP 0 rfl rfl 3 (Nat.le_of_ble_eq_true rfl) (hts _ q367) (fun _ h9 => h9) rfl dX1_size_12 ?_
    refine lv_ifnonnullN hx hb dX1_size_15 ?_
    refine lv_iload_n hx hb dX1_size_18 rfl (lv_at hl 1 rfl) ?_
    refine lv_iconst (v := 0) hx hb dX1_size_19 ci_0 ?_
    refine lv_bipush (v := 10) hx hb dX1_size_20 cb_10 ?_
    refine xc_i (wc := []) (wr := [(o, eRM r .null I L)]) hP hD hS hA [] [0] rfl rfl rfl (by decide) (xrS ⟨hx, hb, hml, hown, hts⟩ hg (m_X1_in l D k _ x 0 10) hP hD [] rfl rfl trivial q469 q470 q83 q471 xo_X1_in ⟨rfl, rfl⟩ ⟨Nat.le_of_ble_eq_true rfl, Nat.le_of_ble_eq_true rfl⟩ hl.1 (Nat.le_of_ble_eq_true rfl) dX1_size_22 ⟨Nat.le_of_ble_eq_true rfl, Nat.le_of_ble_eq_true rfl⟩ rfl) (fun u2 r_ H locs hw hP hD hS hk => ?_)
    obtain ⟨rfl, eu2, bu2⟩ := hw
    replace hP : va_P D vwCl [(o, eRM r .null I L)] H := hP.sub [0] rfl
    replace hD : va_D A [(o, eRM r .null I L)] := hD.sub [0] (by decide) rfl
    have Jn1 : ∀ (v5 : (Int32)) (H : Heap) (locs : List Loc) (ls : Array Slot), v5 = f_X1_sizeN_j1 u2 → va_P D vwCl [(o, eRM r .null I L)] H → va_D A [(o, eRM r .null I L)] → va_S A s.heap H locs → lv_has ls 2 [(0, .ref o), (1, .int x)] → W p l e rm_X1_sizeN s m ([.ref o, .int x] : List Value).toArray below meth c H locs 0 0 (MQ below (q_X1_sizeN D k o r I L x A) ([.ref o, .int x] : List Value).toArray s 0 0 A) (F0 m 33 ls [.int v5]) := by
      intro v5 H locs ls ev5 hP hD hS hl
      exact xret_i hx hb hr hlocks (Nat.le_of_ble_eq_true rfl) (Nat.le_of_ble_eq_true rfl) hS.2.2 dX1_size_33 (fun t ht => ⟨⟨v5, v5, rfl, ⟨rfl, (by subst ev5; subst eu2; exact Eq.symm (Eq.trans (if_neg c1) (rfl)))⟩, by rw [ht]; exact hP, hD⟩, hS.F ht⟩)
    refine lv_if_eq (tgt := 32) hx hb dX1_size_25 (by decide) (fun c6 => ?_) (fun c6 => ?_)
    · refine lv_iconst (v := (-1)) hx hb dX1_size_32 ci_m1 ?_
      exact Jn1 (-1) _ _ _ (by exact Eq.symm (Eq.trans (if_pos c6) (rfl))) hP hD hS (lv_sub hl [0, 1] rfl)
    · refine lv_iconst (v := 0) hx hb dX1_size_28 ci_0 ?_
      refine lv_goto (tgt := 33) hx hb dX1_size_29 (by decide) ?_
      exact Jn1 0 _ _ _ (by exact Eq.symm (Eq.trans (if_neg c6) (rfl))) hP hD hS (lv_sub hl [0, 1] rfl)
  · refine lv_aload_n hx hb dX1_size_6 rfl (lv_at hl 0 rfl) ?_
    refine va_get (D := D) (ci := 0) (v := .int (I 1)) (C := RX1) (T := TX1) (N := 29) hx hb hts in_X1 hown hg.1 hP 0 rfl rfl 1 (Nat.le_of_ble_eq_true rfl) (hts _ q365) (fun _ h9 => h9) rfl dX1_size_7 ?_
    exact xret_i hx hb hr hlocks (Nat.le_of_ble_eq_true rfl) (Nat.le_of_ble_eq_true rfl) hS.2.2 dX1_size_10 (fun t ht => ⟨⟨(I 1), (I 1), rfl, ⟨rfl, (by exact Eq.symm (Eq.trans (if_pos c1) (rfl)))⟩, by rw [ht]; exact hP, hD⟩, hS.F ht⟩)

def f_X1_ruleWhy_j1 (u1 : Int32) : (Int32) :=
  if u1 = 0 then
    2
  else
    0
def f_X1_ruleWhy (x : Int32) : Int32 :=
  let u1 := f_X1_in x 1 5
  let v4 := f_X1_ruleWhy_j1 u1
  v4
abbrev q_X1_ruleWhy (D : va_G) (k : KK) (o : Nat) (r : Nat → Nat) (I : Nat → Int32) (L : Nat → Int64) (x : Int32) (wa : Nat) (wd : WAd) (WI : Nat → Int32) (pr : Nat → Int32) (SI : Nat → Nat → Int32) (OI : Nat → Nat → Int32) (tn : Nat → Nat → Int32) (nS : Nat) (nO : Nat) (A : Nat → Prop) : Array Value → State → Outcome → State → Prop := va_Qi (fun (r_ : Int32) (u : Int32) => r_ = u ∧ u = f_X1_ruleWhy x) (bx D (fun u => [(o, eRM r (.ref wa) I L)]) A) A
abbrev rm_X1_ruleWhy : Room := { frames := 2, cells := 0, slots := 0, locals := 80 }
theorem xo_X1_ruleWhy : xok yX1_ruleWhy 1 := by unfold xok; decide +kernel
set_option maxHeartbeats 8000000 in
theorem m_X1_ruleWhy (l : Launch) (D : va_G) (k : KK) (sz : Nat) (o : Nat) (r : Nat → Nat) (I : Nat → Int32) (L : Nat → Int64) (x : Int32) (wa : Nat) (wd : WAd) (WI : Nat → Int32) (pr : Nat → Int32) (SI : Nat → Nat → Int32) (OI : Nat → Nat → Int32) (tn : Nat → Nat → Int32) (nS : Nat) (nO : Nat) (hnS : WI 3 = nI nS) (hnO : WI 4 = nI nO) (hS2 : 2 ≤ nS) (hS5 : nS ≤ 5) (hO4 : nO ≤ 4) : Met l yX1_ruleWhy (ws_ yX1_ruleWhy cX1_ruleWhy 2 (some .int)) rm_X1_ruleWhy (pcx D k [.ref o, .int x] sz [(o, eRM r (.ref wa) I L)] (wkY D k wa wd WI pr SI OI tn nS nO (va_A [(o, eRM r (.ref wa) I L)] sz))) (q_X1_ruleWhy D k o r I L x wa wd WI pr SI OI tn nS nO (va_A [(o, eRM r (.ref wa) I L)] sz)) 0 0 (va_A [(o, eRM r (.ref wa) I L)] sz) := by
  refine Met.start (Qc := q_X1_ruleWhy D k o r I L x wa wd WI pr SI OI tn nS nO) (by decide) (Nat.le_of_ble_eq_true rfl) ?_
  intro p e s m below meth c A hx hb hr hlocks hml hown hin hts hg hP hD hA hAn hS hY hsz ls hl
  have hown : s.vm.findClass RX1 = some m.cls := hown
  have hl : lv_has ls 2 [(0, .ref o), (1, .int x)] := hl
  have hW := wkY.mono hY hAn
  refine lv_aload_n hx hb dX1_ruleWhy_0 rfl (lv_at hl 0 rfl) ?_
  refine va_get (D := D) (ci := 0) (v := .ref wa) (C := RX1) (T := TX1) (N := 29) hx hb hts in_X1 hown hg.1 hP 0 rfl rfl 3 (Nat.le_of_ble_eq_true rfl) (hts _ q367) (fun _ h9 => h9) rfl dX1_ruleWhy_1 ?_
  refine lv_ifnonnull (tgt := 11) hx hb dX1_ruleWhy_4 (by decide) ?_
  refine lv_iload_n hx hb dX1_ruleWhy_11 rfl (lv_at hl 1 rfl) ?_
  refine lv_iconst (v := 1) hx hb dX1_ruleWhy_12 ci_1 ?_
  refine lv_iconst (v := 5) hx hb dX1_ruleWhy_13 ci_5 ?_
  refine xc_i (wc := []) (wr := [(o, eRM r (.ref wa) I L)]) hP hD hS hA [] [0] rfl rfl rfl (by decide) (xrS ⟨hx, hb, hml, hown, hts⟩ hg (m_X1_in l D k _ x 1 5) hP hD [] rfl rfl trivial q469 q470 q83 q471 xo_X1_in ⟨rfl, rfl⟩ ⟨Nat.le_of_ble_eq_true rfl, Nat.le_of_ble_eq_true rfl⟩ hl.1 (Nat.le_of_ble_eq_true rfl) dX1_ruleWhy_14 ⟨Nat.le_of_ble_eq_true rfl, Nat.le_of_ble_eq_true rfl⟩ rfl) (fun u1 r_ H locs hw hP hD hS hk => ?_)
  obtain ⟨rfl, eu1, bu1⟩ := hw
  replace hP : va_P D vwCl [(o, eRM r (.ref wa) I L)] H := hP.sub [0] rfl
  replace hD : va_D A [(o, eRM r (.ref wa) I L)] := hD.sub [0] (by decide) rfl
  have Jn1 : ∀ (v4 : (Int32)) (H : Heap) (locs : List Loc) (ls : Array Slot), v4 = f_X1_ruleWhy_j1 u1 → va_P D vwCl [(o, eRM r (.ref wa) I L)] H → va_D A [(o, eRM r (.ref wa) I L)] → va_S A s.heap H locs → lv_has ls 2 [(0, .ref o), (1, .int x)] → W p l e rm_X1_ruleWhy s m ([.ref o, .int x] : List Value).toArray below meth c H locs 0 0 (MQ below (q_X1_ruleWhy D k o r I L x wa wd WI pr SI OI tn nS nO A) ([.ref o, .int x] : List Value).toArray s 0 0 A) (F0 m 25 ls [.int v4]) := by
    intro v4 H locs ls ev4 hP hD hS hl
    exact xret_i hx hb hr hlocks (Nat.le_of_ble_eq_true rfl) (Nat.le_of_ble_eq_true rfl) hS.2.2 dX1_ruleWhy_25 (fun t ht => ⟨⟨v4, v4, rfl, ⟨rfl, (by subst ev4; subst eu1; exact rfl)⟩, by rw [ht]; exact hP, hD⟩, hS.F ht⟩)
  refine lv_if_eq (tgt := 24) hx hb dX1_ruleWhy_17 (by decide) (fun c5 => ?_) (fun c5 => ?_)
  · refine lv_iconst (v := 2) hx hb dX1_ruleWhy_24 ci_2 ?_
    exact Jn1 2 _ _ _ (by exact Eq.symm (Eq.trans (if_pos c5) (rfl))) hP hD hS (lv_sub hl [0, 1] rfl)
  · refine lv_iconst (v := 0) hx hb dX1_ruleWhy_20 ci_0 ?_
    refine lv_goto (tgt := 25) hx hb dX1_ruleWhy_21 (by decide) ?_
    exact Jn1 0 _ _ _ (by exact Eq.symm (Eq.trans (if_neg c5) (rfl))) hP hD hS (lv_sub hl [0, 1] rfl)

def f_X1_ruleWhyN  : Int32 :=
  1
abbrev q_X1_ruleWhyN (D : va_G) (k : KK) (o : Nat) (r : Nat → Nat) (I : Nat → Int32) (L : Nat → Int64) (x : Int32) (A : Nat → Prop) : Array Value → State → Outcome → State → Prop := va_Qi (fun (r_ : Int32) (u : Int32) => r_ = u ∧ u = f_X1_ruleWhyN) (bx D (fun u => [(o, eRM r .null I L)]) A) A
abbrev rm_X1_ruleWhyN : Room := { frames := 2, cells := 0, slots := 0, locals := 80 }
set_option maxHeartbeats 8000000 in
theorem m_X1_ruleWhyN (l : Launch) (D : va_G) (k : KK) (sz : Nat) (o : Nat) (r : Nat → Nat) (I : Nat → Int32) (L : Nat → Int64) (x : Int32)  : Met l yX1_ruleWhy (ws_ yX1_ruleWhy cX1_ruleWhy 2 (some .int)) rm_X1_ruleWhyN (pcx D k [.ref o, .int x] sz [(o, eRM r .null I L)] (fun _ => True)) (q_X1_ruleWhyN D k o r I L x (va_A [(o, eRM r .null I L)] sz)) 0 0 (va_A [(o, eRM r .null I L)] sz) := by
  refine Met.start (Qc := q_X1_ruleWhyN D k o r I L x) (by decide) (Nat.le_of_ble_eq_true rfl) ?_
  intro p e s m below meth c A hx hb hr hlocks hml hown hin hts hg hP hD hA hAn hS hY hsz ls hl
  have hown : s.vm.findClass RX1 = some m.cls := hown
  have hl : lv_has ls 2 [(0, .ref o), (1, .int x)] := hl
  refine lv_aload_n hx hb dX1_ruleWhy_0 rfl (lv_at hl 0 rfl) ?_
  refine va_get (D := D) (ci := 0) (v := .null) (C := RX1) (T := TX1) (N := 29) hx hb hts in_X1 hown hg.1 hP 0 rfl rfl 3 (Nat.le_of_ble_eq_true rfl) (hts _ q367) (fun _ h9 => h9) rfl dX1_ruleWhy_1 ?_
  refine lv_ifnonnullN hx hb dX1_ruleWhy_4 ?_
  refine lv_iconst (v := 1) hx hb dX1_ruleWhy_7 ci_1 ?_
  refine lv_goto (tgt := 25) hx hb dX1_ruleWhy_8 (by decide) ?_
  exact xret_i hx hb hr hlocks (Nat.le_of_ble_eq_true rfl) (Nat.le_of_ble_eq_true rfl) hS.2.2 dX1_ruleWhy_25 (fun t ht => ⟨⟨1, 1, rfl, ⟨rfl, rfl⟩, by rw [ht]; exact hP, hD⟩, hS.F ht⟩)
