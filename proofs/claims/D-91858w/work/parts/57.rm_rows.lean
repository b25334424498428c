set_option maxRecDepth 100000
def f_X6_sum_l4 (nu : Nat → Int32) (i1 : Nat) (X1 : (Int32)) : (Int32) :=
  let x5 := (X1 + (nu i1))
  x5
def f_X6_sum (nu : Nat → Int32) (mn : Nat) : Int32 :=
  let X1 := itN (f_X6_sum_l4 nu) mn 0
  X1
abbrev q_X6_sum (D : va_G) (k : KK) (ro : Nat) (rr : Nat → Nat) (RI : Nat → Int32) (nu : Nat → Int32) (mn : Nat) (A : Nat → Prop) : Array Value → State → Outcome → State → Prop := va_Qi (fun (r_ : Int32) (u : Int32) => r_ = u ∧ u = f_X6_sum nu mn) (bx D (fun u => [(ro, eRW rr RI), ((rr 0), aI k 8 nu)]) A) A
abbrev rm_X6_sum : Room := { frames := 1, cells := 0, slots := 0, locals := 40 }
theorem xo_X6_sum : xok yX6_sum 0 := by unfold xok; decide +kernel
set_option maxHeartbeats 8000000 in
theorem m_X6_sum (l : Launch) (D : va_G) (k : KK) (sz : Nat) (ro : Nat) (rr : Nat → Nat) (RI : Nat → Int32) (nu : Nat → Int32) (mn : Nat) (hmn : RI 1 = nI mn) (hm8 : mn ≤ 8) : Met l yX6_sum (ws_ yX6_sum cX6_sum 3 (some .int)) rm_X6_sum (pcx D k [.ref ro] sz [(ro, eRW rr RI), ((rr 0), aI k 8 nu)] (fun _ => True)) (q_X6_sum D k ro rr RI nu mn (va_A [(ro, eRW rr RI), ((rr 0), aI k 8 nu)] sz)) 0 0 (va_A [(ro, eRW rr RI), ((rr 0), aI k 8 nu)] sz) := by
  refine Met.start (Qc := q_X6_sum D k ro rr RI nu mn) (by decide) (Nat.le_of_ble_eq_true rfl) ?_
  intro p e s m below meth c A hx hb hr hlocks hml hown hin hts hg hP hD hA hAn hS hY hsz ls hl
  have hown : s.vm.findClass RX6 = some m.cls := hown
  have hl : lv_has ls 3 [(0, .ref ro)] := hl
  refine lv_iconst (v := 0) hx hb dX6_sum_0 ci_0 ?_
  refine lv_istore_n (lv' := [(1, .int 0), (0, .ref ro)]) hx hb dX6_sum_1 rfl hl (Nat.le_of_ble_eq_true rfl) rfl (fun ls hl => ?_)
  refine lv_iconst (v := 0) hx hb dX6_sum_2 ci_0 ?_
  refine lv_istore_n (lv' := [(2, .int 0), (1, .int 0), (0, .ref ro)]) hx hb dX6_sum_3 rfl hl (Nat.le_of_ble_eq_true rfl) rfl (fun ls hl => ?_)
  have loop1 : ∀ (n1 i1 : Nat) (X1 : (Int32)) (H : Heap) (locs : List Loc) (ls : Array Slot), i1 + n1 = mn → X1 = itN (f_X6_sum_l4 nu) i1 0 → va_P D vwCl [(ro, eRW rr RI), ((rr 0), aI k 8 nu)] H → va_D A [(ro, eRW rr RI), ((rr 0), aI k 8 nu)] → va_S A s.heap H locs → lv_has ls 3 [(2, .int (nI i1)), (1, .int X1), (0, .ref ro)] → W p l e rm_X6_sum s m ([.ref ro] : List Value).toArray below meth c H locs 0 0 (MQ below (q_X6_sum D k ro rr RI nu mn A) ([.ref ro] : List Value).toArray s 0 0 A) (F0 m 4 ls []) := by
    intro n1
    induction n1 with
    | zero =>
      intro i1 X1 H locs ls hn1 eX1 hP hD hS hl
      have hi1 : i1 = mn := by omega
      rw [hi1] at eX1
      refine lv_iload_n hx hb dX6_sum_4 rfl (lv_at hl 0 rfl) ?_
      refine lv_aload_n hx hb dX6_sum_5 rfl (lv_at hl 2 rfl) ?_
      refine va_get (D := D) (ci := 5) (v := .int (RI 1)) (C := RX6) (T := TX6) (N := 2) hx hb hts in_X6 hown hg.1 hP 0 rfl rfl 1 (Nat.le_of_ble_eq_true rfl) (hts _ q339) (fun _ h9 => h9) rfl dX6_sum_6 ?_
      refine lv_icmp_ge (tgt := 27) hx hb dX6_sum_9 (by decide) (fun _ => ?_) (fun c => absurd (xle_t hmn rfl (by omega) (by omega)) c)
      refine lv_iload_n hx hb dX6_sum_27 rfl (lv_at hl 1 rfl) ?_
      exact xret_i hx hb hr hlocks (Nat.le_of_ble_eq_true rfl) (Nat.le_of_ble_eq_true rfl) hS.2.2 dX6_sum_28 (fun t ht => ⟨⟨X1, X1, rfl, ⟨rfl, (by subst eX1; exact rfl)⟩, by rw [ht]; exact hP, hD⟩, hS.F ht⟩)
    | succ n1 ih1 =>
      intro i1 X1 H locs ls hn1 eX1 hP hD hS hl
      have hi1 : i1 < mn := by omega
      refine lv_iload_n hx hb dX6_sum_4 rfl (lv_at hl 0 rfl) ?_
      refine lv_aload_n hx hb dX6_sum_5 rfl (lv_at hl 2 rfl) ?_
      refine va_get (D := D) (ci := 5) (v := .int (RI 1)) (C := RX6) (T := TX6) (N := 2) hx hb hts in_X6 hown hg.1 hP 0 rfl rfl 1 (Nat.le_of_ble_eq_true rfl) (hts _ q339) (fun _ h9 => h9) rfl dX6_sum_6 ?_
      refine lv_icmp_ge (tgt := 27) hx hb dX6_sum_9 (by decide) (fun c => absurd c (xle_f hmn rfl (by omega) (by omega))) (fun _ => ?_)
      refine lv_iload_n hx hb dX6_sum_12 rfl (lv_at hl 1 rfl) ?_
      refine lv_aload_n hx hb dX6_sum_13 rfl (lv_at hl 2 rfl) ?_
      refine va_get (D := D) (ci := 5) (v := .ref (rr 0)) (C := RX6) (T := TX6) (N := 2) hx hb hts in_X6 hown hg.1 hP 0 rfl rfl 0 (Nat.le_of_ble_eq_true rfl) (hts _ q337) (fun _ h9 => h9) rfl dX6_sum_14 ?_
      refine lv_iload_n hx hb dX6_sum_17 rfl (lv_at hl 0 rfl) ?_
      refine xa_iald hx hb hg hP 1 rfl rfl (by first | omega | exact Nat.lt_of_lt_of_le (Nat.mod_lt _ (by omega)) (by omega)) (by omega) dX6_sum_18 ?_
      refine lv_iadd hx hb dX6_sum_19 ?_
      refine lv_topi (fun x5 ex5 => ?_)
      refine lv_istore_n (lv' := [(1, .int x5), (2, .int (nI i1)), (0, .ref ro)]) hx hb dX6_sum_20 rfl hl (Nat.le_of_ble_eq_true rfl) rfl (fun ls hl => ?_)
      refine lv_iinc (v := (nI (i1 + 1))) (lv' := [(2, .int (nI (i1 + 1))), (1, .int x5), (0, .ref ro)]) hx hb dX6_sum_21 hl (k := 1) rfl (xinc1 _) (Nat.le_of_ble_eq_true rfl) rfl (fun ls hl => ?_)
      refine lv_goto (tgt := 4) hx hb dX6_sum_24 (by decide) ?_
      exact ih1 (i1 + 1) x5 _ _ _ (by omega) (Eq.trans (by subst ex5; exact rfl) (congrArg (f_X6_sum_l4 nu i1) eX1)) hP hD hS (lv_sub hl [0, 1, 2] rfl)
  exact loop1 mn 0 0 _ _ _ (by omega) rfl hP hD hS (by have h := (lv_sub hl [0, 1, 2] rfl); exact h)

def f_X6_at (nu : Nat → Int32) (xj : Nat) : Int32 :=
  (nu xj)
abbrev q_X6_at (D : va_G) (k : KK) (ro : Nat) (rr : Nat → Nat) (RI : Nat → Int32) (nu : Nat → Int32) (x : Int32) (xj : Nat) (A : Nat → Prop) : Array Value → State → Outcome → State → Prop := va_Qi (fun (r_ : Int32) (u : Int32) => r_ = u ∧ u = f_X6_at nu xj) (bx D (fun u => [(ro, eRW rr RI), ((rr 0), aI k 8 nu)]) A) A
abbrev rm_X6_at : Room := { frames := 1, cells := 0, slots := 0, locals := 40 }
theorem xo_X6_at : xok yX6_at 1 := by unfold xok; decide +kernel
set_option maxHeartbeats 8000000 in
theorem m_X6_at (l : Launch) (D : va_G) (k : KK) (sz : Nat) (ro : Nat) (rr : Nat → Nat) (RI : Nat → Int32) (nu : Nat → Int32) (x : Int32) (xj : Nat) (hxj : x = nI xj) (hx8 : xj < 8) : Met l yX6_at (ws_ yX6_at cX6_at 2 (some .int)) rm_X6_at (pcx D k [.ref ro, .int x] sz [(ro, eRW rr RI), ((rr 0), aI k 8 nu)] (fun _ => True)) (q_X6_at D k ro rr RI nu x xj (va_A [(ro, eRW rr RI), ((rr 0), aI k 8 nu)] sz)) 0 0 (va_A [(ro, eRW rr RI), ((rr 0), aI k 8 nu)] sz) := by
  refine Met.start (Qc := q_X6_at D k ro rr RI nu x xj) (by decide) (Nat.le_of_ble_eq_true rfl) ?_
  intro p e s m below meth c A hx hb hr hlocks hml hown hin hts hg hP hD hA hAn hS hY hsz ls hl
  have hown : s.vm.findClass RX6 = some m.cls := hown
  have hl : lv_has ls 2 [(0, .ref ro), (1, .int x)] := hl
  refine lv_aload_n hx hb dX6_at_0 rfl (lv_at hl 0 rfl) ?_
  refine va_get (D := D) (ci := 5) (v := .ref (rr 0)) (C := RX6) (T := TX6) (N := 2) hx hb hts in_X6 hown hg.1 hP 0 rfl rfl 0 (Nat.le_of_ble_eq_true rfl) (hts _ q337) (fun _ h9 => h9) rfl dX6_at_1 ?_
  refine lv_iload_n hx hb dX6_at_4 rfl (lv_at hl 1 rfl) ?_
  refine xa_iald hx hb hg hP 1 rfl hxj (by first | omega | exact Nat.lt_of_lt_of_le (Nat.mod_lt _ (by omega)) (by omega)) (by omega) dX6_at_5 ?_
  exact xret_i hx hb hr hlocks (Nat.le_of_ble_eq_true rfl) (Nat.le_of_ble_eq_true rfl) hS.2.2 dX6_at_6 (fun t ht => ⟨⟨(nu xj), (nu xj), rfl, ⟨rfl, rfl⟩, by rw [ht]; exact hP, hD⟩, hS.F ht⟩)

def f_X1_number0 (BI : Nat → Int32) (bn : Nat → Int32) (v : Int32) (bm : Nat) : Int32 × Int32 × Int32 × Int32 × (Nat → Int32) :=
  let u1 := f_X1_anew
  let u2 := f_X1_in v 0 999
  if u2 = 0 then
    let u8 := f_X1_no 2
    (u8.1, u8.2, u1.2, (BI 1), bn)
  else
    if (BI 1) = 8 then
      let u7 := f_X1_no 3
      (u7.1, u7.2, u1.2, (BI 1), bn)
    else
      let f5 := upd bn bm v
      let x6 := ((BI 1) + 1)
      (x6, u1.1, u1.2, x6, f5)
abbrev q_X1_number0 (D : va_G) (k : KK) (o : Nat) (r : Nat → Nat) (I : Nat → Int32) (L : Nat → Int64) (ba : Nat → Nat) (BI : Nat → Int32) (bn : Nat → Int32) (af : Int32) (v : Int32) (bm : Nat) (wa : Nat) (wd : WAd) (WI : Nat → Int32) (pr : Nat → Int32) (SI : Nat → Nat → Int32) (OI : Nat → Nat → Int32) (tn : Nat → Nat → Int32) (nS : Nat) (nO : Nat) (A : Nat → Prop) : Array Value → State → Outcome → State → Prop := va_Qi (fun (r_ : Int32) (u : Int32 × Int32 × Int32 × Int32 × (Nat → Int32)) => r_ = u.1 ∧ u = f_X1_number0 BI bn v bm) (bx D (fun u => [(o, eRM r (.ref wa) (upd (upd I 4 u.2.1) 6 u.2.2.1) L), ((r 26), eRW ba (upd BI 1 u.2.2.2.1)), ((ba 0), aI k 8 u.2.2.2.2)]) A) A
abbrev rm_X1_number0 : Room := { frames := 3, cells := 0, slots := 0, locals := 120 }
theorem xo_X1_number : xok yX1_number 2 := by unfold xok; decide +kernel
set_option maxHeartbeats 8000000 in
theorem m_X1_number0 (l : Launch) (D : va_G) (k : KK) (sz : Nat) (o : Nat) (r : Nat → Nat) (I : Nat → Int32) (L : Nat → Int64) (ba : Nat → Nat) (BI : Nat → Int32) (bn : Nat → Int32) (af : Int32) (v : Int32) (bm : Nat) (wa : Nat) (wd : WAd) (WI : Nat → Int32) (pr : Nat → Int32) (SI : Nat → Nat → Int32) (OI : Nat → Nat → Int32) (tn : Nat → Nat → Int32) (nS : Nat) (nO : Nat) (hnS : WI 3 = nI nS) (hnO : WI 4 = nI nO) (hS2 : 2 ≤ nS) (hS5 : nS ≤ 5) (hO4 : nO ≤ 4) (hbm : BI 1 = nI bm) (hb8 : bm ≤ 8) (haf : af = 0) : Met l yX1_number (ws_ yX1_number cX1_number 4 (some .int)) rm_X1_number0 (pcx D k [.ref o, .int af, .int v] sz [(o, eRM r (.ref wa) I L), ((r 26), eRW ba BI), ((ba 0), aI k 8 bn)] (wkY D k wa wd WI pr SI OI tn nS nO (va_A [(o, eRM r (.ref wa) I L), ((r 26), eRW ba BI), ((ba 0), aI k 8 bn)] sz))) (q_X1_number0 D k o r I L ba BI bn af v bm wa wd WI pr SI OI tn nS nO (va_A [(o, eRM r (.ref wa) I L), ((r 26), eRW ba BI), ((ba 0), aI k 8 bn)] sz)) 0 0 (va_A [(o, eRM r (.ref wa) I L), ((r 26), eRW ba BI), ((ba 0), aI k 8 bn)] sz) := by
  refine Met.start (Qc := q_X1_number0 D k o r I L ba BI bn af v bm wa wd WI pr SI OI tn nS nO) (by decide) (Nat.le_of_ble_eq_true rfl) ?_
  intro p e s m below meth c A hx hb hr hlocks hml hown hin hts hg hP hD hA hAn hS hY hsz ls hl
  have hown : s.vm.findClass RX1 = some m.cls := hown
  have hl : lv_has ls 4 [(0, .ref o), (1, .int af), (2, .int v)] := hl
  have hW := wkY.mono hY hAn
  refine lv_aload_n hx hb dX1_number_0 rfl (lv_at hl 0 rfl) ?_
  refine xc_v (wc := [(o, eRM r (.ref wa) I L)]) (wr := [((r 26), eRW ba BI), ((ba 0), aI k 8 bn)]) hP hD hS hA [0] [1, 2] rfl rfl rfl (by decide) (xrV ⟨hx, hb, hml, hown, hts⟩ hg (m_X1_anew l D k _ o r (.ref wa) I L) hP hD [0] rfl rfl trivial (ci := 0) (q0 := 0) rfl rfl rfl q465 q467 qs2 q83 q468 xo_X1_anew ⟨rfl, rfl⟩ ⟨Nat.le_of_ble_eq_true rfl, Nat.le_of_ble_eq_true rfl⟩ hl.1 (Nat.le_of_ble_eq_true rfl) dX1_number_1 ⟨Nat.le_of_ble_eq_true rfl, Nat.le_of_ble_eq_true rfl⟩ rfl) (fun u1 H locs hw hP hD hS hk => ?_)
  have eu1 := hw
  replace hP : va_P D vwCl [(o, eRM r (.ref wa) (upd (upd I 4 u1.1) 6 u1.2) L), ((r 26), eRW ba BI), ((ba 0), aI k 8 bn)] H := hP.sub [2, 0, 1] rfl
  replace hD : va_D A [(o, eRM r (.ref wa) (upd (upd I 4 u1.1) 6 u1.2) L), ((r 26), eRW ba BI), ((ba 0), aI k 8 bn)] := hD.sub [2, 0, 1] (by decide) rfl
  refine lv_aload_n hx hb dX1_number_4 rfl (lv_at hl 0 rfl) ?_
  refine va_get (D := D) (ci := 0) (v := .ref wa) (C := RX1) (T := TX1) (N := 29) hx hb hts in_X1 hown hg.1 hP 0 rfl rfl 3 (Nat.le_of_ble_eq_true rfl) (hts _ q367) (fun _ h9 => h9) rfl dX1_number_5 ?_
  refine lv_ifnonnull (tgt := 17) hx hb dX1_number_8 (by decide) ?_
  refine lv_iload_n hx hb dX1_number_17 rfl (lv_at hl 2 rfl) ?_
  refine lv_iconst (v := 0) hx hb dX1_number_18 ci_0 ?_
  refine lv_sipush (v := 999) hx hb dX1_number_19 cs_999 ?_
  refine xc_i (wc := []) (wr := [(o, eRM r (.ref wa) (upd (upd I 4 u1.1) 6 u1.2) L), ((r 26), eRW ba BI), ((ba 0), aI k 8 bn)]) hP hD hS hA [] [0, 1, 2] rfl rfl rfl (by decide) (xrS ⟨hx, hb, hml, hown, hts⟩ hg (m_X1_in l D k _ v 0 999) hP hD [] rfl rfl trivial q469 q470 q83 q471 xo_X1_in ⟨rfl, rfl⟩ ⟨Nat.le_of_ble_eq_true rfl, Nat.le_of_ble_eq_true rfl⟩ hl.1 (Nat.le_of_ble_eq_true rfl) dX1_number_22 ⟨Nat.le_of_ble_eq_true rfl, Nat.le_of_ble_eq_true rfl⟩ rfl) (fun u2 r_ H locs hw hP hD hS hk => ?_)
  obtain ⟨rfl, eu2, bu2⟩ := hw
  replace hP : va_P D vwCl [(o, eRM r (.ref wa) (upd (upd I 4 u1.1) 6 u1.2) L), ((r 26), eRW ba BI), ((ba 0), aI k 8 bn)] H := hP.sub [0, 1, 2] rfl
  replace hD : va_D A [(o, eRM r (.ref wa) (upd (upd I 4 u1.1) 6 u1.2) L), ((r 26), eRW ba BI), ((ba 0), aI k 8 bn)] := hD.sub [0, 1, 2] (by decide) rfl
  refine lv_if_ne (tgt := 34) hx hb dX1_number_25 (by decide) (fun c3 => ?_) (fun c3 => ?_)
  · refine lv_iload_n hx hb dX1_number_34 rfl (lv_at hl 1 rfl) ?_
    refine lv_if_eq (tgt := 45) hx hb dX1_number_35 (by decide) (fun _ => ?_) (fun c => absurd haf c)
    refine lv_aload_n hx hb dX1_number_45 rfl (lv_at hl 0 rfl) ?_
    refine va_get (D := D) (ci := 0) (v := .ref (r 26)) (C := RX1) (T := TX1) (N := 29) hx hb hts in_X1 hown hg.1 hP 0 rfl rfl 26 (Nat.le_of_ble_eq_true rfl) (hts _ q390) (fun _ h9 => h9) rfl dX1_number_46 ?_
    refine lv_astore_n (lv' := [(3, .ref (r 26)), (0, .ref o), (1, .int af), (2, .int v)]) hx hb dX1_number_49 rfl hl (Nat.le_of_ble_eq_true rfl) rfl (fun ls hl => ?_)
    refine lv_aload_n hx hb dX1_number_50 rfl (lv_at hl 0 rfl) ?_
    refine va_get (D := D) (ci := 5) (v := .int (BI 1)) (C := RX6) (T := TX6) (N := 2) hx hb hts in_X6 hown hg.1 hP 1 rfl rfl 1 (Nat.le_of_ble_eq_true rfl) (hts _ q340) (fun _ h9 => h9) rfl dX1_number_51 ?_
    refine lv_bipush (v := 8) hx hb dX1_number_54 cb_8 ?_
    refine lv_icmp_ne (tgt := 65) hx hb dX1_number_56 (by decide) (fun c4 => ?_) (fun c4 => ?_)
    · have hr8 := m_ne8 hbm hb8 c4
      refine lv_aload_n hx hb dX1_number_65 rfl (lv_at hl 0 rfl) ?_
      refine va_get (D := D) (ci := 5) (v := .ref (ba 0)) (C := RX6) (T := TX6) (N := 2) hx hb hts in_X6 hown hg.1 hP 1 rfl rfl 0 (Nat.le_of_ble_eq_true rfl) (hts _ q338) (fun _ h9 => h9) rfl dX1_number_66 ?_
      refine lv_aload_n hx hb dX1_number_69 rfl (lv_at hl 0 rfl) ?_
      refine va_get (D := D) (ci := 5) (v := .int (BI 1)) (C := RX6) (T := TX6) (N := 2) hx hb hts in_X6 hown hg.1 hP 1 rfl rfl 1 (Nat.le_of_ble_eq_true rfl) (hts _ q340) (fun _ h9 => h9) rfl dX1_number_70 ?_
      refine lv_iload_n hx hb dX1_number_73 rfl (lv_at hl 3 rfl) ?_
      refine xa_iast hx hb hg hP hD hS 2 rfl hbm (by omega) (by omega) dX1_number_74 (fun f5 H locs ef5 hP hD hS => ?_)
      replace hP : va_P D vwCl [(o, eRM r (.ref wa) (upd (upd I 4 u1.1) 6 u1.2) L), ((r 26), eRW ba BI), ((ba 0), aI k 8 f5)] H := hP
      replace hD : va_D A [(o, eRM r (.ref wa) (upd (upd I 4 u1.1) 6 u1.2) L), ((r 26), eRW ba BI), ((ba 0), aI k 8 f5)] := hD
      refine lv_aload_n hx hb dX1_number_75 rfl (lv_at hl 0 rfl) ?_
      refine lv_dup hx hb dX1_number_76 rfl ?_
      refine va_get (D := D) (ci := 5) (v := .int (BI 1)) (C := RX6) (T := TX6) (N := 2) hx hb hts in_X6 hown hg.1 hP 1 rfl rfl 1 (Nat.le_of_ble_eq_true rfl) (hts _ q340) (fun _ h9 => h9) rfl dX1_number_77 ?_
      refine lv_iconst (v := 1) hx hb dX1_number_80 ci_1 ?_
      refine lv_iadd hx hb dX1_number_81 ?_
      refine lv_topi (fun x6 ex6 => ?_)
      refine va_put (D := D) (ci := 5) (v := .int x6) (C := RX6) (T := TX6) (N := 2) hx hb hts in_X6 tyX6 tyX6_ok nmX6 hown hg.1 hP hD hS 1 rfl rfl 1 (Nat.le_of_ble_eq_true rfl) (hts _ q340) (fun _ h9 => h9) rfl ftX6_1 rfl rfl (Nat.le_of_ble_eq_true rfl) dX1_number_82 (fun H locs hP hD hS => ?_)
      replace hP : va_P D vwCl [(o, eRM r (.ref wa) (upd (upd I 4 u1.1) 6 u1.2) L), ((r 26), eRW ba (upd BI 1 x6)), ((ba 0), aI k 8 f5)] H := hP
      replace hD : va_D A [(o, eRM r (.ref wa) (upd (upd I 4 u1.1) 6 u1.2) L), ((r 26), eRW ba (upd BI 1 x6)), ((ba 0), aI k 8 f5)] := hD
      refine lv_aload_n hx hb dX1_number_85 rfl (lv_at hl 0 rfl) ?_
      refine va_get (D := D) (ci := 5) (v := .int x6) (C := RX6) (T := TX6) (N := 2) hx hb hts in_X6 hown hg.1 hP 1 rfl rfl 1 (Nat.le_of_ble_eq_true rfl) (hts _ q340) (fun _ h9 => h9) rfl dX1_number_86 ?_
      exact xret_i hx hb hr hlocks (Nat.le_of_ble_eq_true rfl) (Nat.le_of_ble_eq_true rfl) hS.2.2 dX1_number_89 (fun t ht => ⟨⟨x6, (x6, u1.1, u1.2, x6, f5), rfl, ⟨rfl, (by subst ex6; subst ef5; subst eu2; subst eu1; exact Eq.symm (Eq.trans (if_neg c3) (Eq.trans (if_neg c4) (rfl))))⟩, by rw [ht]; exact hP, hD⟩, hS.F ht⟩)
    · refine lv_aload_n hx hb dX1_number_59 rfl (lv_at hl 1 rfl) ?_
      refine lv_iconst (v := 3) hx hb dX1_number_60 ci_3 ?_
      refine xc_i (wc := [(o, eRM r (.ref wa) (upd (upd I 4 u1.1) 6 u1.2) L)]) (wr := [((r 26), eRW ba BI), ((ba 0), aI k 8 bn)]) hP hD hS hA [0] [1, 2] rfl rfl rfl (by decide) (xrV ⟨hx, hb, hml, hown, hts⟩ hg (m_X1_no l D k _ o r (.ref wa) (upd (upd I 4 u1.1) 6 u1.2) L 3) hP hD [0] rfl rfl trivial (ci := 0) (q0 := 0) rfl rfl rfl q472 q474 qs3 q83 q475 xo_X1_no ⟨rfl, rfl⟩ ⟨Nat.le_of_ble_eq_true rfl, Nat.le_of_ble_eq_true rfl⟩ hl.1 (Nat.le_of_ble_eq_true rfl) dX1_number_61 ⟨Nat.le_of_ble_eq_true rfl, Nat.le_of_ble_eq_true rfl⟩ rfl) (fun r_ u7 H locs hw hP hD hS hk => ?_)
      obtain ⟨rfl, eu7⟩ := hw
      replace hP : va_P D vwCl [(o, eRM r (.ref wa) (upd (upd I 6 u1.2) 4 u7.2) L), ((r 26), eRW ba BI), ((ba 0), aI k 8 bn)] H := hP.sub [2, 0, 1] rfl
      replace hD : va_D A [(o, eRM r (.ref wa) (upd (upd I 6 u1.2) 4 u7.2) L), ((r 26), eRW ba BI), ((ba 0), aI k 8 bn)] := hD.sub [2, 0, 1] (by decide) rfl
      exact xret_i hx hb hr hlocks (Nat.le_of_ble_eq_true rfl) (Nat.le_of_ble_eq_true rfl) hS.2.2 dX1_number_64 (fun t ht => ⟨⟨u7.1, (u7.1, u7.2, u1.2, (BI 1), bn), rfl, ⟨rfl, (by subst eu7; subst eu2; subst eu1; exact Eq.symm (Eq.trans (if_neg c3) (Eq.trans (if_pos c4) (rfl))))⟩, by rw [ht]; exact hP, hD⟩, hS.F ht⟩)
  · refine lv_aload_n hx hb dX1_number_28 rfl (lv_at hl 0 rfl) ?_
    refine lv_iconst (v := 2) hx hb dX1_number_29 ci_2 ?_
    refine xc_i (wc := [(o, eRM r (.ref wa) (upd (upd I 4 u1.1) 6 u1.2) L)]) (wr := [((r 26), eRW ba BI), ((ba 0), aI k 8 bn)]) hP hD hS hA [0] [1, 2] rfl rfl rfl (by decide) (xrV ⟨hx, hb, hml, hown, hts⟩ hg (m_X1_no l D k _ o r (.ref wa) (upd (upd I 4 u1.1) 6 u1.2) L 2) hP hD [0] rfl rfl trivial (ci := 0) (q0 := 0) rfl rfl rfl q472 q474 qs3 q83 q475 xo_X1_no ⟨rfl, rfl⟩ ⟨Nat.le_of_ble_eq_true rfl, Nat.le_of_ble_eq_true rfl⟩ hl.1 (Nat.le_of_ble_eq_true rfl) dX1_number_30 ⟨Nat.le_of_ble_eq_true rfl, Nat.le_of_ble_eq_true rfl⟩ rfl) (fun r_ u8 H locs hw hP hD hS hk => ?_)
    obtain ⟨rfl, eu8⟩ := hw
    replace hP : va_P D vwCl [(o, eRM r (.ref wa) (upd (upd I 6 u1.2) 4 u8.2) L), ((r 26), eRW ba BI), ((ba 0), aI k 8 bn)] H := hP.sub [2, 0, 1] rfl
    replace hD : va_D A [(o, eRM r (.ref wa) (upd (upd I 6 u1.2) 4 u8.2) L), ((r 26), eRW ba BI), ((ba 0), aI k 8 bn)] := hD.sub [2, 0, 1] (by decide) rfl
    exact xret_i hx hb hr hlocks (Nat.le_of_ble_eq_true rfl) (Nat.le_of_ble_eq_true rfl) hS.2.2 dX1_number_33 (fun t ht => ⟨⟨u8.1, (u8.1, u8.2, u1.2, (BI 1), bn), rfl, ⟨rfl, (by subst eu8; subst eu2; subst eu1; exact Eq.symm (Eq.trans (if_pos c3) (rfl)))⟩, by rw [ht]; exact hP, hD⟩, hS.F ht⟩)

def f_X1_number1 (AI : Nat → Int32) (an : Nat → Int32) (v : Int32) (am : Nat) : Int32 × Int32 × Int32 × Int32 × (Nat → Int32) :=
  let u1 := f_X1_anew
  let u2 := f_X1_in v 0 999
  if u2 = 0 then
    let u8 := f_X1_no 2
    (u8.1, u8.2, u1.2, (AI 1), an)
  else
    if (AI 1) = 8 then
      let u7 := f_X1_no 3
      (u7.1, u7.2, u1.2, (AI 1), an)
    else
      let f5 := upd an am v
      let x6 := ((AI 1) + 1)
      (x6, u1.1, u1.2, x6, f5)
abbrev q_X1_number1 (D : va_G) (k : KK) (o : Nat) (r : Nat → Nat) (I : Nat → Int32) (L : Nat → Int64) (aa : Nat → Nat) (AI : Nat → Int32) (an : Nat → Int32) (af : Int32) (v : Int32) (am : Nat) (wa : Nat) (wd : WAd) (WI : Nat → Int32) (pr : Nat → Int32) (SI : Nat → Nat → Int32) (OI : Nat → Nat → Int32) (tn : Nat → Nat → Int32) (nS : Nat) (nO : Nat) (A : Nat → Prop) : Array Value → State → Outcome → State → Prop := va_Qi (fun (r_ : Int32) (u : Int32 × Int32 × Int32 × Int32 × (Nat → Int32)) => r_ = u.1 ∧ u = f_X1_number1 AI an v am) (bx D (fun u => [(o, eRM r (.ref wa) (upd (upd I 4 u.2.1) 6 u.2.2.1) L), ((r 27), eRW aa (upd AI 1 u.2.2.2.1)), ((aa 0), aI k 8 u.2.2.2.2)]) A) A
abbrev rm_X1_number1 : Room := { frames := 3, cells := 0, slots := 0, locals := 120 }
set_option maxHeartbeats 8000000 in
theorem m_X1_number1 (l : Launch) (D : va_G) (k : KK) (sz : Nat) (o : Nat) (r : Nat → Nat) (I : Nat → Int32) (L : Nat → Int64) (aa : Nat → Nat) (AI : Nat → Int32) (an : Nat → Int32) (af : Int32) (v : Int32) (am : Nat) (wa : Nat) (wd : WAd) (WI : Nat → Int32) (pr : Nat → Int32) (SI : Nat → Nat → Int32) (OI : Nat → Nat → Int32) (tn : Nat → Nat → Int32) (nS : Nat) (nO : Nat) (hnS : WI 3 = nI nS) (hnO : WI 4 = nI nO) (hS2 : 2 ≤ nS) (hS5 : nS ≤ 5) (hO4 : nO ≤ 4) (ham : AI 1 = nI am) (ha8 : am ≤ 8) (haf : ¬ af = 0) : Met l yX1_number (ws_ yX1_number cX1_number 4 (some .int)) rm_X1_number1 (pcx D k [.ref o, .int af, .int v] sz [(o, eRM r (.ref wa) I L), ((r 27), eRW aa AI), ((aa 0), aI k 8 an)] (wkY D k wa wd WI pr SI OI tn nS nO (va_A [(o, eRM r (.ref wa) I L), ((r 27), eRW aa AI), ((aa 0), aI k 8 an)] sz))) (q_X1_number1 D k o r I L aa AI an af v am wa wd WI pr SI OI tn nS nO (va_A [(o, eRM r (.ref wa) I L), ((r 27), eRW aa AI), ((aa 0), aI k 8 an)] sz)) 0 0 (va_A [(o, eRM r (.ref wa) I L), ((r 27), eRW aa AI), ((aa 0), aI k 8 an)] sz) := by
  refine Met.start (Qc := q_X1_number1 D k o r I L aa AI an af v am wa wd WI pr SI OI tn nS nO) (by decide) (Nat.le_of_ble_eq_true rfl) ?_
  intro p e s m below meth c A hx hb hr hlocks hml hown hin hts hg hP hD hA hAn hS hY hsz ls hl
  have hown : s.vm.findClass RX1 = some m.cls := hown
  have hl : lv_has ls 4 [(0, .ref o), (1, .int af), (2, .int v)] := hl
  have hW := wkY.mono hY hAn
  refine lv_aload_n hx hb dX1_number_0 rfl (lv_at hl 0 rfl) ?_
  refine xc_v (wc := [(o, eRM r (.ref wa) I L)]) (wr := [((r 27), eRW aa AI), ((aa 0), aI k 8 an)]) hP hD hS hA [0] [1, 2] rfl rfl rfl (by decide) (xrV ⟨hx, hb, hml, hown, hts⟩ hg (m_X1_anew l D k _ o r (.ref wa) I L) hP hD [0] rfl rfl trivial (ci := 0) (q0 := 0) rfl rfl rfl q465 q467 qs2 q83 q468 xo_X1_anew ⟨rfl, rfl⟩ ⟨Nat.le_of_ble_eq_true rfl, Nat.le_of_ble_eq_true rfl⟩ hl.1 (Nat.le_of_ble_eq_true rfl) dX1_number_1 ⟨Nat.le_of_ble_eq_true rfl, Nat.le_of_ble_eq_true rfl⟩ rfl) (fun u1 H locs hw hP hD hS hk => ?_)
  have eu1 := hw
  replace hP : va_P D vwCl [(o, eRM r (.ref wa) (upd (upd I 4 u1.1) 6 u1.2) L), ((r 27), eRW aa AI), ((aa 0), aI k 8 an)] H := hP.sub [2, 0, 1] rfl
  replace hD : va_D A [(o, eRM r (.ref wa) (upd (upd I 4 u1.1) 6 u1.2) L), ((r 27), eRW aa AI), ((aa 0), aI k 8 an)] := hD.sub [2, 0, 1] (by decide) rfl
  refine lv_aload_n hx hb dX1_number_4 rfl (lv_at hl 0 rfl) ?_
  refine va_get (D := D) (ci := 0) (v := .ref wa) (C := RX1) (T := TX1) (N := 29) hx hb hts in_X1 hown hg.1 hP 0 rfl rfl 3 (Nat.le_of_ble_eq_true rfl) (hts _ q367) (fun _ h9 => h9) rfl dX1_number_5 ?_
  refine lv_ifnonnull (tgt := 17) hx hb dX1_number_8 (by decide) ?_
  refine lv_iload_n hx hb dX1_number_17 rfl (lv_at hl 2 rfl) ?_
  refine lv_iconst (v := 0) hx hb dX1_number_18 ci_0 ?_
  refine lv_sipush (v := 999) hx hb dX1_number_19 cs_999 ?_
  refine xc_i (wc := []) (wr := [(o, eRM r (.ref wa) (upd (upd I 4 u1.1) 6 u1.2) L), ((r 27), eRW aa AI), ((aa 0), aI k 8 an)]) hP hD hS hA [] [0, 1, 2] rfl rfl rfl (by decide) (xrS ⟨hx, hb, hml, hown, hts⟩ hg (m_X1_in l D k _ v 0 999) hP hD [] rfl rfl trivial q469 q470 q83 q471 xo_X1_in ⟨rfl, rfl⟩ ⟨Nat.le_of_ble_eq_true rfl, Nat.le_of_ble_eq_true rfl⟩ hl.1 (Nat.le_of_ble_eq_true rfl) dX1_number_22 ⟨Nat.le_of_ble_eq_true rfl, Nat.le_of_ble_eq_true rfl⟩ rfl) (fun u2 r_ H locs hw hP hD hS hk => ?_)
  obtain ⟨rfl, eu2, bu2⟩ := hw
  replace hP : va_P D vwCl [(o, eRM r (.ref wa) (upd (upd I 4 u1.1) 6 u1.2) L), ((r 27), eRW aa AI), ((aa 0), aI k 8 an)] H := hP.sub [0, 1, 2] rfl
  replace hD : va_D A [(o, eRM r (.ref wa) (upd (upd I 4 u1.1) 6 u1.2) L), ((r 27), eRW aa AI), ((aa 0), aI k 8 an)] := hD.sub [0, 1, 2] (by decide) rfl
  refine lv_if_ne (tgt := 34) hx hb dX1_number_25 (by decide) (fun c3 => ?_) (fun c3 => ?_)
  · refine lv_iload_n hx hb dX1_number_34 rfl (lv_at hl 1 rfl) ?_
    refine lv_if_eq (tgt := 45) hx hb dX1_number_35 (by decide) (fun c => absurd c haf) (fun _ => ?_)
    refine lv_aload_n hx hb dX1_number_38 rfl (lv_at hl 0 rfl) ?_
    refine va_get (D := D) (ci := 0) (v := .ref (r 27)) (C := RX1) (T := TX1) (N := 29) hx hb hts in_X1 hown hg.1 hP 0 rfl rfl 27 (Nat.le_of_ble_eq_true rfl) (hts _ q391) (fun _ h9 => h9) rfl dX1_number_39 ?_
    refine lv_goto (tgt := 49) hx hb dX1_number_42 (by decide) ?_
    refine lv_astore_n (lv' := [(3, .ref (r 27)), (0, .ref o), (1, .int af), (2, .int v)]) hx hb dX1_number_49 rfl hl (Nat.le_of_ble_eq_true rfl) rfl (fun ls hl => ?_)
    refine lv_aload_n hx hb dX1_number_50 rfl (lv_at hl 0 rfl) ?_
    refine va_get (D := D) (ci := 5) (v := .int (AI 1)) (C := RX6) (T := TX6) (N := 2) hx hb hts in_X6 hown hg.1 hP 1 rfl rfl 1 (Nat.le_of_ble_eq_true rfl) (hts _ q340) (fun _ h9 => h9) rfl dX1_number_51 ?_
    refine lv_bipush (v := 8) hx hb dX1_number_54 cb_8 ?_
    refine lv_icmp_ne (tgt := 65) hx hb dX1_number_56 (by decide) (fun c4 => ?_) (fun c4 => ?_)
    · have hr8 := m_ne8 ham ha8 c4
      refine lv_aload_n hx hb dX1_number_65 rfl (lv_at hl 0 rfl) ?_
      refine va_get (D := D) (ci := 5) (v := .ref (aa 0)) (C := RX6) (T := TX6) (N := 2) hx hb hts in_X6 hown hg.1 hP 1 rfl rfl 0 (Nat.le_of_ble_eq_true rfl) (hts _ q338) (fun _ h9 => h9) rfl dX1_number_66 ?_
      refine lv_aload_n hx hb dX1_number_69 rfl (lv_at hl 0 rfl) ?_
      refine va_get (D := D) (ci := 5) (v := .int (AI 1)) (C := RX6) (T := TX6) (N := 2) hx hb hts in_X6 hown hg.1 hP 1 rfl rfl 1 (Nat.le_of_ble_eq_true rfl) (hts _ q340) (fun _ h9 => h9) rfl dX1_number_70 ?_
      refine lv_iload_n hx hb dX1_number_73 rfl (lv_at hl 3 rfl) ?_
      refine xa_iast hx hb hg hP hD hS 2 rfl ham (by omega) (by omega) dX1_number_74 (fun f5 H locs ef5 hP hD hS => ?_)
      replace hP : va_P D vwCl [(o, eRM r (.ref wa) (upd (upd I 4 u1.1) 6 u1.2) L), ((r 27), eRW aa AI), ((aa 0), aI k 8 f5)] H := hP
      replace hD : va_D A [(o, eRM r (.ref wa) (upd (upd I 4 u1.1) 6 u1.2) L), ((r 27), eRW aa AI), ((aa 0), aI k 8 f5)] := hD
      refine lv_aload_n hx hb dX1_number_75 rfl (lv_at hl 0 rfl) ?_
      refine lv_dup hx hb dX1_number_76 rfl ?_
      refine va_get (D := D) (ci := 5) (v := .int (AI 1)) (C := RX6) (T := TX6) (N := 2) hx hb hts in_X6 hown hg.1 hP 1 rfl rfl 1 (Nat.le_of_ble_eq_true rfl) (hts _ q340) (fun _ h9 => h9) rfl dX1_number_77 ?_
      refine lv_iconst (v := 1) hx hb dX1_number_80 ci_1 ?_
      refine lv_iadd hx hb dX1_number_81 ?_
      refine lv_topi (fun x6 ex6 => ?_)
      refine va_put (D := D) (ci := 5) (v := .int x6) (C := RX6) (T := TX6) (N := 2) hx hb hts in_X6 tyX6 tyX6_ok nmX6 hown hg.1 hP hD hS 1 rfl rfl 1 (Nat.le_of_ble_eq_true rfl) (hts _ q340) (fun _ h9 => h9) rfl ftX6_1 rfl rfl (Nat.le_of_ble_eq_true rfl) dX1_number_82 (fun H locs hP hD hS => ?_)
      replace hP : va_P D vwCl [(o, eRM r (.ref wa) (upd (upd I 4 u1.1) 6 u1.2) L), ((r 27), eRW aa (upd AI 1 x6)), ((aa 0), aI k 8 f5)] H := hP
      replace hD : va_D A [(o, eRM r (.ref wa) (upd (upd I 4 u1.1) 6 u1.2) L), ((r 27), eRW aa (upd AI 1 x6)), ((aa 0), aI k 8 f5)] := hD
      refine lv_aload_n hx hb dX1_number_85 rfl (lv_at hl 0 rfl) ?_
      refine va_get (D := D) (ci := 5) (v := .int x6) (C := RX6) (T := TX6) (N := 2) hx hb hts in_X6 hown hg.1 hP 1 rfl rfl 1 (Nat.le_of_ble_eq_true rfl) (hts _ q340) (fun _ h9 => h9) rfl dX1_number_86 ?_
      exact xret_i hx hb hr hlocks (Nat.le_of_ble_eq_true rfl) (Nat.le_of_ble_eq_true rfl) hS.2.2 dX1_number_89 (fun t ht => ⟨⟨x6, (x6, u1.1, u1.2, x6, f5), rfl, ⟨rfl, (by subst ex6; subst ef5; subst eu2; subst eu1; exact Eq.symm (Eq.trans (if_neg c3) (Eq.trans (if_neg c4) (rfl))))⟩, by rw [ht]; exact hP, hD⟩, hS.F ht⟩)
    · refine lv_aload_n hx hb dX1_number_59 rfl (lv_at hl 1 rfl) ?_
      refine lv_iconst (v := 3) hx hb dX1_number_60 ci_3 ?_
      refine xc_i (wc := [(o, eRM r (.ref wa) (upd (upd I 4 u1.1) 6 u1.2) L)]) (wr := [((r 27), eRW aa AI), ((aa 0), aI k 8 an)]) hP hD hS hA [0] [1, 2] rfl rfl rfl (by decide) (xrV ⟨hx, hb, hml, hown, hts⟩ hg (m_X1_no l D k _ o r (.ref wa) (upd (upd I 4 u1.1) 6 u1.2) L 3) hP hD [0] rfl rfl trivial (ci := 0) (q0 := 0) rfl rfl rfl q472 q474 qs3 q83 q475 xo_X1_no ⟨rfl, rfl⟩ ⟨Nat.le_of_ble_eq_true rfl, Nat.le_of_ble_eq_true rfl⟩ hl.1 (Nat.le_of_ble_eq_true rfl) dX1_number_61 ⟨Nat.le_of_ble_eq_true rfl, Nat.le_of_ble_eq_true rfl⟩ rfl) (fun r_ u7 H locs hw hP hD hS hk => ?_)
      obtain ⟨rfl, eu7⟩ := hw
      replace hP : va_P D vwCl [(o, eRM r (.ref wa) (upd (upd I 6 u1.2) 4 u7.2) L), ((r 27), eRW aa AI), ((aa 0), aI k 8 an)] H := hP.sub [2, 0, 1] rfl
      replace hD : va_D A [(o, eRM r (.ref wa) (upd (upd I 6 u1.2) 4 u7.2) L), ((r 27), eRW aa AI), ((aa 0), aI k 8 an)] := hD.sub [2, 0, 1] (by decide) rfl
      exact xret_i hx hb hr hlocks (Nat.le_of_ble_eq_true rfl) (Nat.le_of_ble_eq_true rfl) hS.2.2 dX1_number_64 (fun t ht => ⟨⟨u7.1, (u7.1, u7.2, u1.2, (AI 1), an), rfl, ⟨rfl, (by subst eu7; subst eu2; subst eu1; exact Eq.symm (Eq.trans (if_neg c3) (Eq.trans (if_pos c4) (rfl))))⟩, by rw [ht]; exact hP, hD⟩, hS.F ht⟩)
  · refine lv_aload_n hx hb dX1_number_28 rfl (lv_at hl 0 rfl) ?_
    refine lv_iconst (v := 2) hx hb dX1_number_29 ci_2 ?_
    refine xc_i (wc := [(o, eRM r (.ref wa) (upd (upd I 4 u1.1) 6 u1.2) L)]) (wr := [((r 27), eRW aa AI), ((aa 0), aI k 8 an)]) hP hD hS hA [0] [1, 2] rfl rfl rfl (by decide) (xrV ⟨hx, hb, hml, hown, hts⟩ hg (m_X1_no l D k _ o r (.ref wa) (upd (upd I 4 u1.1) 6 u1.2) L 2) hP hD [0] rfl rfl trivial (ci := 0) (q0 := 0) rfl rfl rfl q472 q474 qs3 q83 q475 xo_X1_no ⟨rfl, rfl⟩ ⟨Nat.le_of_ble_eq_true rfl, Nat.le_of_ble_eq_true rfl⟩ hl.1 (Nat.le_of_ble_eq_true rfl) dX1_number_30 ⟨Nat.le_of_ble_eq_true rfl, Nat.le_of_ble_eq_true rfl⟩ rfl) (fun r_ u8 H locs hw hP hD hS hk => ?_)
    obtain ⟨rfl, eu8⟩ := hw
    replace hP : va_P D vwCl [(o, eRM r (.ref wa) (upd (upd I 6 u1.2) 4 u8.2) L), ((r 27), eRW aa AI), ((aa 0), aI k 8 an)] H := hP.sub [2, 0, 1] rfl
    replace hD : va_D A [(o, eRM r (.ref wa) (upd (upd I 6 u1.2) 4 u8.2) L), ((r 27), eRW aa AI), ((aa 0), aI k 8 an)] := hD.sub [2, 0, 1] (by decide) rfl
    exact xret_i hx hb hr hlocks (Nat.le_of_ble_eq_true rfl) (Nat.le_of_ble_eq_true rfl) hS.2.2 dX1_number_33 (fun t ht => ⟨⟨u8.1, (u8.1, u8.2, u1.2, (AI 1), an), rfl, ⟨rfl, (by subst eu8; subst eu2; subst eu1; exact Eq.symm (Eq.trans (if_pos c3) (rfl)))⟩, by rw [ht]; exact hP, hD⟩, hS.F ht⟩)

def f_X1_numberN  : Int32 × Int32 × Int32 :=
  let u1 := f_X1_anew
  let u2 := f_X1_no 1
  (u2.1, u2.2, u1.2)
abbrev q_X1_numberN (D : va_G) (k : KK) (o : Nat) (r : Nat → Nat) (I : Nat → Int32) (L : Nat → Int64) (af : Int32) (v : Int32) (A : Nat → Prop) : Array Value → State → Outcome → State → Prop := va_Qi (fun (r_ : Int32) (u : Int32 × Int32 × Int32) => r_ = u.1 ∧ u = f_X1_numberN) (bx D (fun u => [(o, eRM r .null (upd (upd I 4 u.2.1) 6 u.2.2) L)]) A) A
abbrev rm_X1_numberN : Room := { frames := 3, cells := 0, slots := 0, locals := 120 }
set_option maxHeartbeats 8000000 in
theorem m_X1_numberN (l : Launch) (D : va_G) (k : KK) (sz : Nat) (o : Nat) (r : Nat → Nat) (I : Nat → Int32) (L : Nat → Int64) (af : Int32) (v : Int32)  : Met l yX1_number (ws_ yX1_number cX1_number 4 (some .int)) rm_X1_numberN (pcx D k [.ref o, .int af, .int v] sz [(o, eRM r .null I L)] (fun _ => True)) (q_X1_numberN D k o r I L af v (va_A [(o, eRM r .null I L)] sz)) 0 0 (va_A [(o, eRM r .null I L)] sz) := by
  refine Met.start (Qc := q_X1_numberN D k o r I L af v) (by decide) (Nat.le_of_ble_eq_true rfl) ?_
  intro p e s m below meth c A hx hb hr hlocks hml hown hin hts hg hP hD hA hAn hS hY hsz ls hl
  have hown : s.vm.findClass RX1 = some m.cls := hown
  have hl : lv_has ls 4 [(0, .ref o), (1, .int af), (2, .int v)] := hl
  refine lv_aload_n hx hb dX1_number_0 rfl (lv_at hl 0 rfl) ?_
  refine xc_v (wc := [(o, eRM r .null I L)]) (wr := []) hP hD hS hA [0] [] rfl rfl rfl (by decide) (xrV ⟨hx, hb, hml, hown, hts⟩ hg (m_X1_anew l D k _ o r .null I L) hP hD [0] rfl rfl trivial (ci := 0) (q0 := 0) rfl rfl rfl q465 q467 qs2 q83 q468 xo_X1_anew ⟨rfl, rfl⟩ ⟨Nat.le_of_ble_eq_true rfl, Nat.le_of_ble_eq_true rfl⟩ hl.1 (Nat.le_of_ble_eq_true rfl) dX1_number_1 ⟨Nat.le_of_ble_eq_true rfl, Nat.le_of_ble_eq_true rfl⟩ rfl) (fun u1 H locs hw hP hD hS hk => ?_)
  have eu1 := hw
  replace hP : va_P D vwCl [(o, eRM r .null (upd (upd I 4 u1.1) 6 u1.2) L)] H := hP.sub [0] rfl
  replace hD : va_D A [(o, eRM r .null (upd (upd I 4 u1.1) 6 u1.2) L)] := hD.sub [0] (by decide) rfl
  refine lv_aload_n hx hb dX1_number_4 rfl (lv_at hl 0 rfl) ?_
  refine va_get (D := D) (ci := 0) (v := .null) (C := RX1) (T := TX1) (N := 29) hx hb hts in_X1 hown hg.1 hP 0 rfl rfl 3 (Nat.le_of_ble_eq_true rfl) (hts _ q367) (fun _ h9 => h9) rfl dX1_number_5 ?_
  refine lv_ifnonnullN hx hb dX1_number_8 ?_
  refine lv_aload_n hx hb dX1_number_11 rfl (lv_at hl 0 rfl) ?_
  refine lv_iconst (v := 1) hx hb dX1_number_12 ci_1 ?_
  refine xc_i (wc := [(o, eRM r .null (upd (upd I 4 u1.1) 6 u1.2) L)]) (wr := []) hP hD hS hA [0] [] rfl rfl rfl (by decide) (xrV ⟨hx, hb, hml, hown, hts⟩ hg (m_X1_no l D k _ o r .null (upd (upd I 4 u1.1) 6 u1.2) L 1) hP hD [0] rfl rfl trivial (ci := 0) (q0 := 0) rfl rfl rfl q472 q474 qs3 q83 q475 xo_X1_no ⟨rfl, rfl⟩ ⟨Nat.le_of_ble_eq_true rfl, Nat.le_of_ble_eq_true rfl⟩ hl.1 (Nat.le_of_ble_eq_true rfl) dX1_number_13 ⟨Nat.le_of_ble_eq_true rfl, Nat.le_of_ble_eq_true rfl⟩ rfl) (fun r_ u2 H locs hw hP hD hS hk => ?_)
  obtain ⟨rfl, eu2⟩ := hw
  replace hP : va_P D vwCl [(o, eRM r .null (upd (upd I 6 u1.2) 4 u2.2) L)] H := hP.sub [0] rfl
  replace hD : va_D A [(o, eRM r .null (upd (upd I 6 u1.2) 4 u2.2) L)] := hD.sub [0] (by decide) rfl
  exact xret_i hx hb hr hlocks (Nat.le_of_ble_eq_true rfl) (Nat.le_of_ble_eq_true rfl) hS.2.2 dX1_number_16 (fun t ht => ⟨⟨u2.1, (u2.1, u2.2, u1.2), rfl, ⟨rfl, (by subst eu2; subst eu1; exact rfl)⟩, by rw [ht]; exact hP, hD⟩, hS.F ht⟩)

def f_X1_isTry_j1 (BI : Nat → Int32) (AI : Nat → Int32) : (Int32) :=
  if (BI 1) ≤ 0 then
    0
  else
    if (AI 1) ≤ 0 then
      0
    else
      1
def f_X1_isTry (BI : Nat → Int32) (AI : Nat → Int32) : Int32 :=
  let v5 := f_X1_isTry_j1 BI AI
  v5
abbrev q_X1_isTry (D : va_G) (k : KK) (o : Nat) (r : Nat → Nat) (I : Nat → Int32) (L : Nat → Int64) (w : Value) (ba : Nat → Nat) (BI : Nat → Int32) (bn : Nat → Int32) (aa : Nat → Nat) (AI : Nat → Int32) (an : Nat → Int32) (A : Nat → Prop) : Array Value → State → Outcome → State → Prop := va_Qi (fun (r_ : Int32) (u : Int32) => r_ = u ∧ u = f_X1_isTry BI AI ∧ (r_ = 0 ∨ r_ = 1)) (bx D (fun u => [(o, eRM r w I L), ((r 26), eRW ba BI), ((ba 0), aI k 8 bn), ((r 27), eRW aa AI), ((aa 0), aI k 8 an)]) A) A
abbrev rm_X1_isTry : Room := { frames := 1, cells := 0, slots := 0, locals := 40 }
theorem xo_X1_isTry : xok yX1_isTry 0 := by unfold xok; decide +kernel
set_option maxHeartbeats 8000000 in
theorem m_X1_isTry (l : Launch) (D : va_G) (k : KK) (sz : Nat) (o : Nat) (r : Nat → Nat) (I : Nat → Int32) (L : Nat → Int64) (w : Value) (ba : Nat → Nat) (BI : Nat → Int32) (bn : Nat → Int32) (aa : Nat → Nat) (AI : Nat → Int32) (an : Nat → Int32)  : Met l yX1_isTry (ws_ yX1_isTry cX1_isTry 1 (some .boolean)) rm_X1_isTry (pcx D k [.ref o] sz [(o, eRM r w I L), ((r 26), eRW ba BI), ((ba 0), aI k 8 bn), ((r 27), eRW aa AI), ((aa 0), aI k 8 an)] (fun _ => True)) (q_X1_isTry D k o r I L w ba BI bn aa AI an (va_A [(o, eRM r w I L), ((r 26), eRW ba BI), ((ba 0), aI k 8 bn), ((r 27), eRW aa AI), ((aa 0), aI k 8 an)] sz)) 0 0 (va_A [(o, eRM r w I L), ((r 26), eRW ba BI), ((ba 0), aI k 8 bn), ((r 27), eRW aa AI), ((aa 0), aI k 8 an)] sz) := by
  refine Met.start (Qc := q_X1_isTry D k o r I L w ba BI bn aa AI an) (by decide) (Nat.le_of_ble_eq_true rfl) ?_
  intro p e s m below meth c A hx hb hr hlocks hml hown hin hts hg hP hD hA hAn hS hY hsz ls hl
  have hown : s.vm.findClass RX1 = some m.cls := hown
  have hl : lv_has ls 1 [(0, .ref o)] := hl
  refine lv_aload_n hx hb dX1_isTry_0 rfl (lv_at hl 0 rfl) ?_
  refine va_get (D := D) (ci := 0) (v := .ref (r 26)) (C := RX1) (T := TX1) (N := 29) hx hb hts in_X1 hown hg.1 hP 0 rfl rfl 26 (Nat.le_of_ble_eq_true rfl) (hts _ q390) (fun _ h9 => h9) rfl dX1_isTry_1 ?_
  refine va_get (D := D) (ci := 5) (v := .int (BI 1)) (C := RX6) (T := TX6) (N := 2) hx hb hts in_X6 hown hg.1 hP 1 rfl rfl 1 (Nat.le_of_ble_eq_true rfl) (hts _ q340) (fun _ h9 => h9) rfl dX1_isTry_4 ?_
  have Jn1 : ∀ (v5 : (Int32)) (H : Heap) (locs : List Loc) (ls : Array Slot), v5 = f_X1_isTry_j1 BI AI → (v5 = 0 ∨ v5 = 1) → va_P D vwCl [(o, eRM r w I L), ((r 26), eRW ba BI), ((ba 0), aI k 8 bn), ((r 27), eRW aa AI), ((aa 0), aI k 8 an)] H → va_D A [(o, eRM r w I L), ((r 26), eRW ba BI), ((ba 0), aI k 8 bn), ((r 27), eRW aa AI), ((aa 0), aI k 8 an)] → va_S A s.heap H locs → lv_has ls 1 [(0, .ref o)] → W p l e rm_X1_isTry s m ([.ref o] : List Value).toArray below meth c H locs 0 0 (MQ below (q_X1_isTry D k o r I L w ba BI bn aa AI an A) ([.ref o] : List Value).toArray s 0 0 A) (F0 m 25 ls [.int v5]) := by
    intro v5 H locs ls ev5 bv5_0 hP hD hS hl
    exact xret_z hx hb hr hlocks (Nat.le_of_ble_eq_true rfl) (Nat.le_of_ble_eq_true rfl) hS.2.2 dX1_isTry_25 bv5_0 (fun t ht => ⟨⟨v5, v5, rfl, ⟨rfl, (by subst ev5; exact rfl), bv5_0⟩, by rw [ht]; exact hP, hD⟩, hS.F ht⟩)
  refine lv_if_le (tgt := 24) hx hb dX1_isTry_7 (by decide) (fun c6 => ?_) (fun c6 => ?_)
  · refine lv_iconst (v := 0) hx hb dX1_isTry_24 ci_0 ?_
    exact Jn1 0 _ _ _ (by exact Eq.symm (Eq.trans (if_pos c6) (rfl))) (Or.inl rfl) hP hD hS (lv_sub hl [0] rfl)
  · refine lv_aload_n hx hb dX1_isTry_10 rfl (lv_at hl 0 rfl) ?_
    refine va_get (D := D) (ci := 0) (v := .ref (r 27)) (C := RX1) (T := TX1) (N := 29) hx hb hts in_X1 hown hg.1 hP 0 rfl rfl 27 (Nat.le_of_ble_eq_true rfl) (hts _ q391) (fun _ h9 => h9) rfl dX1_isTry_11 ?_
    refine va_get (D := D) (ci := 5) (v := .int (AI 1)) (C := RX6) (T := TX6) (N := 2) hx hb hts in_X6 hown hg.1 hP 3 rfl rfl 1 (Nat.le_of_ble_eq_true rfl) (hts _ q340) (fun _ h9 => h9) rfl dX1_isTry_14 ?_
    refine lv_if_le (tgt := 24) hx hb dX1_isTry_17 (by decide) (fun c7 => ?_) (fun c7 => ?_)
    · refine lv_iconst (v := 0) hx hb dX1_isTry_24 ci_0 ?_
      exact Jn1 0 _ _ _ (by exact Eq.symm (Eq.trans (if_neg c6) (Eq.trans (if_pos c7) (rfl)))) (Or.inl rfl) hP hD hS (lv_sub hl [0] rfl)
    · refine lv_iconst (v := 1) hx hb dX1_isTry_20 ci_1 ?_
      refine lv_goto (tgt := 25) hx hb dX1_isTry_21 (by decide) ?_
      exact Jn1 1 _ _ _ (by exact Eq.symm (Eq.trans (if_neg c6) (Eq.trans (if_neg c7) (rfl)))) (Or.inr rfl) hP hD hS (lv_sub hl [0] rfl)

def f_X1_clear (BI : Nat → Int32) (AI : Nat → Int32) : Int32 × Int32 × Int32 :=
  let x1 := ((BI 1) + (AI 1))
  (x1, 0, 0)
abbrev q_X1_clear (D : va_G) (k : KK) (o : Nat) (r : Nat → Nat) (I : Nat → Int32) (L : Nat → Int64) (w : Value) (ba : Nat → Nat) (BI : Nat → Int32) (bn : Nat → Int32) (aa : Nat → Nat) (AI : Nat → Int32) (an : Nat → Int32) (A : Nat → Prop) : Array Value → State → Outcome → State → Prop := va_Qi (fun (r_ : Int32) (u : Int32 × Int32 × Int32) => r_ = u.1 ∧ u = f_X1_clear BI AI) (bx D (fun u => [(o, eRM r w I L), ((r 26), eRW ba (upd BI 1 u.2.1)), ((ba 0), aI k 8 bn), ((r 27), eRW aa (upd AI 1 u.2.2)), ((aa 0), aI k 8 an)]) A) A
abbrev rm_X1_clear : Room := { frames := 1, cells := 0, slots := 0, locals := 40 }
theorem xo_X1_clear : xok yX1_clear 0 := by unfold xok; decide +kernel
set_option maxHeartbeats 8000000 in
theorem m_X1_clear (l : Launch) (D : va_G) (k : KK) (sz : Nat) (o : Nat) (r : Nat → Nat) (I : Nat → Int32) (L : Nat → Int64) (w : Value) (ba : Nat → Nat) (BI : Nat → Int32) (bn : Nat → Int32) (aa : Nat → Nat) (AI : Nat → Int32) (an : Nat → Int32)  : Met l yX1_clear (ws_ yX1_clear cX1_clear 2 (some .int)) rm_X1_clear (pcx D k [.ref o] sz [(o, eRM r w I L), ((r 26), eRW ba BI), ((ba 0), aI k 8 bn), ((r 27), eRW aa AI), ((aa 0), aI k 8 an)] (fun _ => True)) (q_X1_clear D k o r I L w ba BI bn aa AI an (va_A [(o, eRM r w I L), ((r 26), eRW ba BI), ((ba 0), aI k 8 bn), ((r 27), eRW aa AI), ((aa 0), aI k 8 an)] sz)) 0 0 (va_A [(o, eRM r w I L), ((r 26), eRW ba BI), ((ba 0), aI k 8 bn), ((r 27), eRW aa AI), ((aa 0), aI k 8 an)] sz) := by
  refine Met.start (Qc := q_X1_clear D k o r I L w ba BI bn aa AI an) (by decide) (Nat.le_of_ble_eq_true rfl) ?_
  intro p e s m below meth c A hx hb hr hlocks hml hown hin hts hg hP hD hA hAn hS hY hsz ls hl
  have hown : s.vm.findClass RX1 = some m.cls := hown
  have hl : lv_has ls 2 [(0, .ref o)] := hl
  refine lv_aload_n hx hb dX1_clear_0 rfl (lv_at hl 0 rfl) ?_
  refine va_get (D := D) (ci := 0) (v := .ref (r 26)) (C := RX1) (T := TX1) (N := 29) hx hb hts in_X1 hown hg.1 hP 0 rfl rfl 26 (Nat.le_of_ble_eq_true rfl) (hts _ q390) (fun _ h9 => h9) rfl dX1_clear_1 ?_
  refine va_get (D := D) (ci := 5) (v := .int (BI 1)) (C := RX6) (T := TX6) (N := 2) hx hb hts in_X6 hown hg.1 hP 1 rfl rfl 1 (Nat.le_of_ble_eq_true rfl) (hts _ q340) (fun _ h9 => h9) rfl dX1_clear_4 ?_
  refine lv_aload_n hx hb dX1_clear_7 rfl (lv_at hl 0 rfl) ?_
  refine va_get (D := D) (ci := 0) (v := .ref (r 27)) (C := RX1) (T := TX1) (N := 29) hx hb hts in_X1 hown hg.1 hP 0 rfl rfl 27 (Nat.le_of_ble_eq_true rfl) (hts _ q391) (fun _ h9 => h9) rfl dX1_clear_8 ?_
  refine va_get (D := D) (ci := 5) (v := .int (AI 1)) (C := RX6) (T := TX6) (N := 2) hx hb hts in_X6 hown hg.1 hP 3 rfl rfl 1 (Nat.le_of_ble_eq_true rfl) (hts _ q340) (fun _ h9 => h9) rfl dX1_clear_11 ?_
  refine lv_iadd hx hb dX1_clear_14 ?_
  refine lv_topi (fun x1 ex1 => ?_)
  refine lv_istore_n (lv' := [(1, .int x1), (0, .ref o)]) hx hb dX1_clear_15 rfl hl (Nat.le_of_ble_eq_true rfl) rfl (fun ls hl => ?_)
  refine lv_aload_n hx hb dX1_clear_16 rfl (lv_at hl 1 rfl) ?_
  refine va_get (D := D) (ci := 0) (v := .ref (r 26)) (C := RX1) (T := TX1) (N := 29) hx hb hts in_X1 hown hg.1 hP 0 rfl rfl 26 (Nat.le_of_ble_eq_true rfl) (hts _ q390) (fun _ h9 => h9) rfl dX1_clear_17 ?_
  refine lv_iconst (v := 0) hx hb dX1_clear_20 ci_0 ?_
  refine va_put (D := D) (ci := 5) (v := .int 0) (C := RX6) (T := TX6) (N := 2) hx hb hts in_X6 tyX6 tyX6_ok nmX6 hown hg.1 hP hD hS 1 rfl rfl 1 (Nat.le_of_ble_eq_true rfl) (hts _ q340) (fun _ h9 => h9) rfl ftX6_1 rfl rfl (Nat.le_of_ble_eq_true rfl) dX1_clear_21 (fun H locs hP hD hS => ?_)
  replace hP : va_P D vwCl [(o, eRM r w I L), ((r 26), eRW ba (upd BI 1 0)), ((ba 0), aI k 8 bn), ((r 27), eRW aa AI), ((aa 0), aI k 8 an)] H := hP
  replace hD : va_D A [(o, eRM r w I L), ((r 26), eRW ba (upd BI 1 0)), ((ba 0), aI k 8 bn), ((r 27), eRW aa AI), ((aa 0), aI k 8 an)] := hD
  refine lv_aload_n hx hb dX1_clear_24 rfl (lv_at hl 1 rfl) ?_
  refine va_get (D := D) (ci := 0) (v := .ref (r 27)) (C := RX1) (T := TX1) (N := 29) hx hb hts in_X1 hown hg.1 hP 0 rfl rfl 27 (Nat.le_of_ble_eq_true rfl) (hts _ q391) (fun _ h9 => h9) rfl dX1_clear_25 ?_
  refine lv_iconst (v := 0) hx hb dX1_clear_28 ci_0 ?_
  refine va_put (D := D) (ci := 5) (v := .int 0) (C := RX6) (T := TX6) (N := 2) hx hb hts in_X6 tyX6 tyX6_ok nmX6 hown hg.1 hP hD hS 3 rfl rfl 1 (Nat.le_of_ble_eq_true rfl) (hts _ q340) (fun _ h9 => h9) rfl ftX6_1 rfl rfl (Nat.le_of_ble_eq_true rfl) dX1_clear_29 (fun H locs hP hD hS => ?_)
  replace hP : va_P D vwCl [(o, eRM r w I L), ((r 26), eRW ba (upd BI 1 0)), ((ba 0), aI k 8 bn), ((r 27), eRW aa (upd AI 1 0)), ((aa 0), aI k 8 an)] H := hP
  replace hD : va_D A [(o, eRM r w I L), ((r 26), eRW ba (upd BI 1 0)), ((ba 0), aI k 8 bn), ((r 27), eRW aa (upd AI 1 0)), ((aa 0), aI k 8 an)] := hD
  refine lv_iload_n hx hb dX1_clear_32 rfl (lv_at hl 0 rfl) ?_
  exact xret_i hx hb hr hlocks (Nat.le_of_ble_eq_true rfl) (Nat.le_of_ble_eq_true rfl) hS.2.2 dX1_clear_33 (fun t ht => ⟨⟨x1, (x1, 0, 0), rfl, ⟨rfl, (by subst ex1; exact rfl)⟩, by rw [ht]; exact hP, hD⟩, hS.F ht⟩)

def f_X1_numberAt_j1 (BI : Nat → Int32) (bn : Nat → Int32) (an : Nat → Int32) (x : Int32) (bm : Nat) (xj : Nat) : (Int32) :=
  if (BI 1) ≤ x then
    let u9 := f_X6_at an (xj - bm)
    u9
  else
    let u10 := f_X6_at bn xj
    u10
def f_X1_numberAt (BI : Nat → Int32) (bn : Nat → Int32) (an : Nat → Int32) (x : Int32) (bm : Nat) (xj : Nat) : Int32 :=
  let v7 := f_X1_numberAt_j1 BI bn an x bm xj
  v7
abbrev q_X1_numberAt (D : va_G) (k : KK) (o : Nat) (r : Nat → Nat) (I : Nat → Int32) (L : Nat → Int64) (w : Value) (ba : Nat → Nat) (BI : Nat → Int32) (bn : Nat → Int32) (aa : Nat → Nat) (AI : Nat → Int32) (an : Nat → Int32) (x : Int32) (bm : Nat) (am : Nat) (xj : Nat) (A : Nat → Prop) : Array Value → State → Outcome → State → Prop := va_Qi (fun (r_ : Int32) (u : Int32) => r_ = u ∧ u = f_X1_numberAt BI bn an x bm xj) (bx D (fun u => [(o, eRM r w I L), ((r 26), eRW ba BI), ((ba 0), aI k 8 bn), ((r 27), eRW aa AI), ((aa 0), aI k 8 an)]) A) A
abbrev rm_X1_numberAt : Room := { frames := 2, cells := 0, slots := 0, locals := 80 }
theorem xo_X1_numberAt : xok yX1_numberAt 1 := by unfold xok; decide +kernel
set_option maxHeartbeats 8000000 in
theorem m_X1_numberAt (l : Launch) (D : va_G) (k : KK) (sz : Nat) (o : Nat) (r : Nat → Nat) (I : Nat → Int32) (L : Nat → Int64) (w : Value) (ba : Nat → Nat) (BI : Nat → Int32) (bn : Nat → Int32) (aa : Nat → Nat) (AI : Nat → Int32) (an : Nat → Int32) (x : Int32) (bm : Nat) (am : Nat) (xj : Nat) (hbm : BI 1 = nI bm) (hb8 : bm ≤ 8) (ham : AI 1 = nI am) (ha8 : am ≤ 8) (hxj : x = nI xj) (hx16 : xj < bm + am) : Met l yX1_numberAt (ws_ yX1_numberAt cX1_numberAt 2 (some .int)) rm_X1_numberAt (pcx D k [.ref o, .int x] sz [(o, eRM r w I L), ((r 26), eRW ba BI), ((ba 0), aI k 8 bn), ((r 27), eRW aa AI), ((aa 0), aI k 8 an)] (fun _ => True)) (q_X1_numberAt D k o r I L w ba BI bn aa AI an x bm am xj (va_A [(o, eRM r w I L), ((r 26), eRW ba BI), ((ba 0), aI k 8 bn), ((r 27), eRW aa AI), ((aa 0), aI k 8 an)] sz)) 0 0 (va_A [(o, eRM r w I L), ((r 26), eRW ba BI), ((ba 0), aI k 8 bn), ((r 27), eRW aa AI), ((aa 0), aI k 8 an)] sz) := by
  refine Met.start (Qc := q_X1_numberAt D k o r I L w ba BI bn aa AI an x bm am xj) (by decide) (Nat.le_of_ble_eq_true rfl) ?_
  intro p e s m below meth c A hx hb hr hlocks hml hown hin hts hg hP hD hA hAn hS hY hsz ls hl
  have hown : s.vm.findClass RX1 = some m.cls := hown
  have hl : lv_has ls 2 [(0, .ref o), (1, .int x)] := hl
  refine lv_iload_n hx hb dX1_numberAt_0 rfl (lv_at hl 1 rfl) ?_
  refine lv_aload_n hx hb dX1_numberAt_1 rfl (lv_at hl 0 rfl) ?_
  refine va_get (D := D) (ci := 0) (v := .ref (r 26)) (C := RX1) (T := TX1) (N := 29) hx hb hts in_X1 hown hg.1 hP 0 rfl rfl 26 (Nat.le_of_ble_eq_true rfl) (hts _ q390) (fun _ h9 => h9) rfl dX1_numberAt_2 ?_
  refine va_get (D := D) (ci := 5) (v := .int (BI 1)) (C := RX6) (T := TX6) (N := 2) hx hb hts in_X6 hown hg.1 hP 1 rfl rfl 1 (Nat.le_of_ble_eq_true rfl) (hts _ q340) (fun _ h9 => h9) rfl dX1_numberAt_5 ?_
  have Jn1 : ∀ (v7 : (Int32)) (H : Heap) (locs : List Loc) (ls : Array Slot), v7 = f_X1_numberAt_j1 BI bn an x bm xj → va_P D vwCl [(o, eRM r w I L), ((r 26), eRW ba BI), ((ba 0), aI k 8 bn), ((r 27), eRW aa AI), ((aa 0), aI k 8 an)] H → va_D A [(o, eRM r w I L), ((r 26), eRW ba BI), ((ba 0), aI k 8 bn), ((r 27), eRW aa AI), ((aa 0), aI k 8 an)] → va_S A s.heap H locs → lv_has ls 2 [(0, .ref o), (1, .int x)] → W p l e rm_X1_numberAt s m ([.ref o, .int x] : List Value).toArray below meth c H locs 0 0 (MQ below (q_X1_numberAt D k o r I L w ba BI bn aa AI an x bm am xj A) ([.ref o, .int x] : List Value).toArray s 0 0 A) (F0 m 38 ls [.int v7]) := by
    intro v7 H locs ls ev7 hP hD hS hl
    exact xret_i hx hb hr hlocks (Nat.le_of_ble_eq_true rfl) (Nat.le_of_ble_eq_true rfl) hS.2.2 dX1_numberAt_38 (fun t ht => ⟨⟨v7, v7, rfl, ⟨rfl, (by subst ev7; exact rfl)⟩, by rw [ht]; exact hP, hD⟩, hS.F ht⟩)
  refine lv_icmp_ge (tgt := 22) hx hb dX1_numberAt_8 (by decide) (fun c8 => ?_) (fun c8 => ?_)
  · have hge : bm ≤ xj := by
      rcases Nat.lt_or_ge xj bm with h | h
      · exact absurd c8 (xle_f hbm hxj h (by omega))
      · exact h
    refine lv_aload_n hx hb dX1_numberAt_22 rfl (lv_at hl 0 rfl) ?_
    refine va_get (D := D) (ci := 0) (v := .ref (r 27)) (C := RX1) (T := TX1) (N := 29) hx hb hts in_X1 hown hg.1 hP 0 rfl rfl 27 (Nat.le_of_ble_eq_true rfl) (hts _ q391) (fun _ h9 => h9) rfl dX1_numberAt_23 ?_
    refine lv_iload_n hx hb dX1_numberAt_26 rfl (lv_at hl 1 rfl) ?_
    refine lv_aload_n hx hb dX1_numberAt_27 rfl (lv_at hl 0 rfl) ?_
    refine va_get (D := D) (ci := 0) (v := .ref (r 26)) (C := RX1) (T := TX1) (N := 29) hx hb hts in_X1 hown hg.1 hP 0 rfl rfl 26 (Nat.le_of_ble_eq_true rfl) (hts _ q390) (fun _ h9 => h9) rfl dX1_numberAt_28 ?_
    refine va_get (D := D) (ci := 5) (v := .int (BI 1)) (C := RX6) (T := TX6) (N := 2) hx hb hts in_X6 hown hg.1 hP 1 rfl rfl 1 (Nat.le_of_ble_eq_true rfl) (hts _ q340) (fun _ h9 => h9) rfl dX1_numberAt_31 ?_
    refine lv_isub hx hb dX1_numberAt_34 ?_
    refine xc_i (wc := [((r 27), eRW aa AI), ((aa 0), aI k 8 an)]) (wr := [(o, eRM r w I L), ((r 26), eRW ba BI), ((ba 0), aI k 8 bn)]) hP hD hS hA [3, 4] [0, 1, 2] rfl rfl rfl (by decide) (xrV ⟨hx, hb, hml, hown, hts⟩ hg (m_X6_at l D k _ (r 27) aa AI an (x - (BI 1)) (xj - bm) (xnsub hxj hbm (by omega)) (by omega)) hP hD [3, 4] rfl rfl trivial (ci := 5) (q0 := 3) rfl rfl rfl q1077 q1078 q1079 q91 q1080 xo_X6_at ⟨rfl, rfl⟩ ⟨Nat.le_of_ble_eq_true rfl, Nat.le_of_ble_eq_true rfl⟩ hl.1 (Nat.le_of_ble_eq_true rfl) dX1_numberAt_35 ⟨Nat.le_of_ble_eq_true rfl, Nat.le_of_ble_eq_true rfl⟩ rfl) (fun u9 r_ H locs hw hP hD hS hk => ?_)
    obtain ⟨rfl, eu9⟩ := hw
    replace hP : va_P D vwCl [(o, eRM r w I L), ((r 26), eRW ba BI), ((ba 0), aI k 8 bn), ((r 27), eRW aa AI), ((aa 0), aI k 8 an)] H := hP.sub [0, 1, 2, 3, 4] rfl
    replace hD : va_D A [(o, eRM r w I L), ((r 26), eRW ba BI), ((ba 0), aI k 8 bn), ((r 27), eRW aa AI), ((aa 0), aI k 8 an)] := hD.sub [0, 1, 2, 3, 4] (by decide) rfl
    exact Jn1 u9 _ _ _ (by subst eu9; exact Eq.symm (Eq.trans (if_pos c8) (rfl))) hP hD hS (lv_sub hl [0, 1] rfl)
  · have hlt : xj < bm := by
      rcases Nat.lt_or_ge xj bm with h | h
      · exact h
      · exact absurd (xle_t hbm hxj h (by omega)) c8
    refine lv_aload_n hx hb dX1_numberAt_11 rfl (lv_at hl 0 rfl) ?_
    refine va_get (D := D) (ci := 0) (v := .ref (r 26)) (C := RX1) (T := TX1) (N := 29) hx hb hts in_X1 hown hg.1 hP 0 rfl rfl 26 (Nat.le_of_ble_eq_true rfl) (hts _ q390) (fun _ h9 => h9) rfl dX1_numberAt_12 ?_
    refine lv_iload_n hx hb dX1_numberAt_15 rfl (lv_at hl 1 rfl) ?_
    refine xc_i (wc := [((r 26), eRW ba BI), ((ba 0), aI k 8 bn)]) (wr := [(o, eRM r w I L), ((r 27), eRW aa AI), ((aa 0), aI k 8 an)]) hP hD hS hA [1, 2] [0, 3, 4] rfl rfl rfl (by decide) (xrV ⟨hx, hb, hml, hown, hts⟩ hg (m_X6_at l D k _ (r 26) ba BI bn x xj hxj (by omega)) hP hD [1, 2] rfl rfl trivial (ci := 5) (q0 := 1) rfl rfl rfl q1077 q1078 q1079 q91 q1080 xo_X6_at ⟨rfl, rfl⟩ ⟨Nat.le_of_ble_eq_true rfl, Nat.le_of_ble_eq_true rfl⟩ hl.1 (Nat.le_of_ble_eq_true rfl) dX1_numberAt_16 ⟨Nat.le_of_ble_eq_true rfl, Nat.le_of_ble_eq_true rfl⟩ rfl) (fun u10 r_ H locs hw hP hD hS hk => ?_)
    obtain ⟨rfl, eu10⟩ := hw
    replace hP : va_P D vwCl [(o, eRM r w I L), ((r 26), eRW ba BI), ((ba 0), aI k 8 bn), ((r 27), eRW aa AI), ((aa 0), aI k 8 an)] H := hP.sub [0, 3, 4, 1, 2] rfl
    replace hD : va_D A [(o, eRM r w I L), ((r 26), eRW ba BI), ((ba 0), aI k 8 bn), ((r 27), eRW aa AI), ((aa 0), aI k 8 an)] := hD.sub [0, 3, 4, 1, 2] (by decide) rfl
    refine lv_goto (tgt := 38) hx hb dX1_numberAt_19 (by decide) ?_
    exact Jn1 u10 _ _ _ (by subst eu10; exact Eq.symm (Eq.trans (if_neg c8) (rfl))) hP hD hS (lv_sub hl [0, 1] rfl)

def f_X7_begins_j4 (sx : Int32) (i1 : Nat) : (Int64) :=
  if nI i1 = sx then
    1000000
  else
    0
def f_X7_begins_l2 (sx : Int32) (i1 : Nat) (X1 : (Nat → Int64) × (Nat → Int64)) : (Nat → Int64) × (Nat → Int64) :=
  let v22 := f_X7_begins_j4 sx i1
  let f23 := vp_updL X1.1 i1 v22
  let f24 := vp_updL X1.2 i1 0
  (f23, f24)
def f_X7_begins (lh : Nat → Int64) (lb : Nat → Int64) (sx : Int32) : Int64 × (Nat → Int64) × (Nat → Int64) :=
  let X1 := itN (f_X7_begins_l2 sx) 5 (lh, lb)
  (0, X1.1, X1.2)
abbrev q_X7_begins (D : va_G) (k : KK) (le : Nat) (lr : Nat → Nat) (LL : Nat → Int64) (lh : Nat → Int64) (lb : Nat → Int64) (sx : Int32) (A : Nat → Prop) : Array Value → State → Outcome → State → Prop := va_Qv (fun (u : Int64 × (Nat → Int64) × (Nat → Int64)) => u = f_X7_begins lh lb sx) (bx D (fun u => [(le, eLE lr (vp_updL LL 2 u.1)), ((lr 0), aL k 5 u.2.1), ((lr 1), aL k 5 u.2.2)]) A) A
abbrev rm_X7_begins : Room := { frames := 1, cells := 0, slots := 0, locals := 40 }
theorem xo_X7_begins : xok yX7_begins 1 := by unfold xok; decide +kernel
set_option maxHeartbeats 8000000 in
theorem m_X7_begins (l : Launch) (D : va_G) (k : KK) (sz : Nat) (le : Nat) (lr : Nat → Nat) (LL : Nat → Int64) (lh : Nat → Int64) (lb : Nat → Int64) (sx : Int32)  : Met l yX7_begins (ws_ yX7_begins cX7_begins 3 none) rm_X7_begins (pcx D k [.ref le, .int sx] sz [(le, eLE lr LL), ((lr 0), aL k 5 lh), ((lr 1), aL k 5 lb)] (fun _ => True)) (q_X7_begins D k le lr LL lh lb sx (va_A [(le, eLE lr LL), ((lr 0), aL k 5 lh), ((lr 1), aL k 5 lb)] sz)) 0 0 (va_A [(le, eLE lr LL), ((lr 0), aL k 5 lh), ((lr 1), aL k 5 lb)] sz) := by
  refine Met.start (Qc := q_X7_begins D k le lr LL lh lb sx) (by decide) (Nat.le_of_ble_eq_true rfl) ?_
  intro p e s m below meth c A hx hb hr hlocks hml hown hin hts hg hP hD hA hAn hS hY hsz ls hl
  have hown : s.vm.findClass RX7 = some m.cls := hown
  have hl : lv_has ls 3 [(0, .ref le), (1, .int sx)] := hl
  refine lv_iconst (v := 0) hx hb dX7_begins_0 ci_0 ?_
  refine lv_istore_n (lv' := [(2, .int 0), (0, .ref le), (1, .int sx)]) hx hb dX7_begins_1 rfl hl (Nat.le_of_ble_eq_true rfl) rfl (fun ls hl => ?_)
  have loop1 : ∀ (n1 i1 : Nat) (X1 : (Nat → Int64) × (Nat → Int64)) (H : Heap) (locs : List Loc) (ls : Array Slot), i1 + n1 = 5 → X1 = itN (f_X7_begins_l2 sx) i1 (lh, lb) → va_P D vwCl [(le, eLE lr LL), ((lr 0), aL k 5 X1.1), ((lr 1), aL k 5 X1.2)] H → va_D A [(le, eLE lr LL), ((lr 0), aL k 5 X1.1), ((lr 1), aL k 5 X1.2)] → va_S A s.heap H locs → lv_has ls 3 [(2, .int (nI i1)), (0, .ref le), (1, .int sx)] → W p l e rm_X7_begins s m ([.ref le, .int sx] : List Value).toArray below meth c H locs 0 0 (MQ below (q_X7_begins D k le lr LL lh lb sx A) ([.ref le, .int sx] : List Value).toArray s 0 0 A) (F0 m 2 ls []) := by
    intro n1
    induction n1 with
    | zero =>
      intro i1 X1 H locs ls hn1 eX1 hP hD hS hl
      have hi1 : i1 = 5 := by omega
      rw [hi1] at eX1
      refine lv_iload_n hx hb dX7_begins_2 rfl (lv_at hl 0 rfl) ?_
      refine lv_iconst (v := 5) hx hb dX7_begins_3 ci_5 ?_
      refine lv_icmp_ge (tgt := 38) hx hb dX7_begins_4 (by decide) (fun _ => ?_) (fun c => absurd (xle_t xl_5 rfl (by omega) (by omega)) c)
      refine lv_aload_n hx hb dX7_begins_38 rfl (lv_at hl 1 rfl) ?_
      refine lv_lconst (v := 0) hx hb dX7_begins_39 cl_0 ?_
      refine va_put (D := D) (ci := 6) (v := .long 0) (C := RX7) (T := TX7) (N := 3) hx hb hts in_X7 tyX7 tyX7_ok nmX7 hown hg.1 hP hD hS 0 rfl rfl 2 (Nat.le_of_ble_eq_true rfl) (hts _ q354) (fun _ h9 => h9) rfl ftX7_2 rfl rfl (Nat.le_of_ble_eq_true rfl) dX7_begins_40 (fun H locs hP hD hS => ?_)
      replace hP : va_P D vwCl [(le, eLE lr (vp_updL LL 2 0)), ((lr 0), aL k 5 X1.1), ((lr 1), aL k 5 X1.2)] H := hP
      replace hD : va_D A [(le, eLE lr (vp_updL LL 2 0)), ((lr 0), aL k 5 X1.1), ((lr 1), aL k 5 X1.2)] := hD
      exact xret_v hx hb hr hlocks (Nat.le_of_ble_eq_true rfl) (Nat.le_of_ble_eq_true rfl) hS.2.2 dX7_begins_43 (fun t ht => ⟨⟨(0, X1.1, X1.2), rfl, (by subst eX1; exact rfl), by rw [ht]; exact hP, hD⟩, hS.F ht⟩)
    | succ n1 ih1 =>
      intro i1 X1 H locs ls hn1 eX1 hP hD hS hl
      have hi1 : i1 < 5 := by omega
      refine lv_iload_n hx hb dX7_begins_2 rfl (lv_at hl 0 rfl) ?_
      refine lv_iconst (v := 5) hx hb dX7_begins_3 ci_5 ?_
      refine lv_icmp_ge (tgt := 38) hx hb dX7_begins_4 (by decide) (fun c => absurd c (xle_f xl_5 rfl (by omega) (by omega))) (fun _ => ?_)
      refine lv_aload_n hx hb dX7_begins_7 rfl (lv_at hl 1 rfl) ?_
      refine va_get (D := D) (ci := 6) (v := .ref (lr 0)) (C := RX7) (T := TX7) (N := 3) hx hb hts in_X7 hown hg.1 hP 0 rfl rfl 0 (Nat.le_of_ble_eq_true rfl) (hts _ q352) (fun _ h9 => h9) rfl dX7_begins_8 ?_
      refine lv_iload_n hx hb dX7_begins_11 rfl (lv_at hl 0 rfl) ?_
      refine lv_iload_n hx hb dX7_begins_12 rfl (lv_at hl 0 rfl) ?_
      refine lv_iload_n hx hb dX7_begins_13 rfl (lv_at hl 2 rfl) ?_
      have Jn4 : ∀ (v22 : (Int64)) (H : Heap) (locs : List Loc) (ls : Array Slot), v22 = f_X7_begins_j4 sx i1 → va_P D vwCl [(le, eLE lr LL), ((lr 0), aL k 5 X1.1), ((lr 1), aL k 5 X1.2)] H → va_D A [(le, eLE lr LL), ((lr 0), aL k 5 X1.1), ((lr 1), aL k 5 X1.2)] → va_S A s.heap H locs → lv_has ls 3 [(2, .int (nI i1)), (0, .ref le), (1, .int sx)] → W p l e rm_X7_begins s m ([.ref le, .int sx] : List Value).toArray below meth c H locs 0 0 (MQ below (q_X7_begins D k le lr LL lh lb sx A) ([.ref le, .int sx] : List Value).toArray s 0 0 A) (F0 m 24 ls [.long v22, .int (nI i1), .ref (lr 0)]) := by
        intro v22 H locs ls ev22 hP hD hS hl
        refine xa_last hx hb hg hP hD hS 1 rfl rfl (by omega) (by omega) dX7_begins_24 (fun f23 H locs ef23 hP hD hS => ?_)
        replace hP : va_P D vwCl [(le, eLE lr LL), ((lr 0), aL k 5 f23), ((lr 1), aL k 5 X1.2)] H := hP
        replace hD : va_D A [(le, eLE lr LL), ((lr 0), aL k 5 f23), ((lr 1), aL k 5 X1.2)] := hD
        refine lv_aload_n hx hb dX7_begins_25 rfl (lv_at hl 1 rfl) ?_
        refine va_get (D := D) (ci := 6) (v := .ref (lr 1)) (C := RX7) (T := TX7) (N := 3) hx hb hts in_X7 hown hg.1 hP 0 rfl rfl 1 (Nat.le_of_ble_eq_true rfl) (hts _ q353) (fun _ h9 => h9) rfl dX7_begins_26 ?_
        refine lv_iload_n hx hb dX7_begins_29 rfl (lv_at hl 0 rfl) ?_
        refine lv_lconst (v := 0) hx hb dX7_begins_30 cl_0 ?_
        refine xa_last hx hb hg hP hD hS 2 rfl rfl (by omega) (by omega) dX7_begins_31 (fun f24 H locs ef24 hP hD hS => ?_)
        replace hP : va_P D vwCl [(le, eLE lr LL), ((lr 0), aL k 5 f23), ((lr 1), aL k 5 f24)] H := hP
        replace hD : va_D A [(le, eLE lr LL), ((lr 0), aL k 5 f23), ((lr 1), aL k 5 f24)] := hD
        refine lv_iinc (v := (nI (i1 + 1))) (lv' := [(2, .int (nI (i1 + 1))), (0, .ref le), (1, .int sx)]) hx hb dX7_begins_32 hl (k := 0) rfl (xinc1 _) (Nat.le_of_ble_eq_true rfl) rfl (fun ls hl => ?_)
        refine lv_goto (tgt := 2) hx hb dX7_begins_35 (by decide) ?_
        exact ih1 (i1 + 1) (f23, f24) _ _ _ (by omega) (Eq.trans (by subst ef24; subst ef23; subst ev22; exact rfl) (congrArg (f_X7_begins_l2 sx i1) eX1)) hP hD hS (lv_sub hl [0, 1, 2] rfl)
      refine lv_icmp_ne (tgt := 23) hx hb dX7_begins_14 (by decide) (fun c25 => ?_) (fun c25 => ?_)
      · refine lv_lconst (v := 0) hx hb dX7_begins_23 cl_0 ?_
        exact Jn4 0 _ _ _ (by exact Eq.symm (Eq.trans (if_neg c25) (rfl))) hP hD hS (lv_sub hl [0, 1, 2] rfl)
      · refine lv_ldc2 hx hb hown (hts _ q1097) dX7_begins_17 ?_
        refine lv_goto (tgt := 24) hx hb dX7_begins_20 (by decide) ?_
        exact Jn4 1000000 _ _ _ (by exact Eq.symm (Eq.trans (if_pos c25) (rfl))) hP hD hS (lv_sub hl [0, 1, 2] rfl)
  exact loop1 5 0 (lh, lb) _ _ _ (by omega) rfl hP hD hS (by have h := (lv_sub hl [0, 1, 2] rfl); exact h)
