set_option maxRecDepth 100000
def f_X1_waysTo0_j1 (z : Int32) : (Int32) :=
  if 0 < z then
    0
  else
    1
def f_X1_waysTo0 (y : Int32) (z : Int32) : Int32 :=
  if y = 0 then
    let v4 := f_X1_waysTo0_j1 z
    v4
  else
    0
abbrev q_X1_waysTo0 (D : va_G) (k : KK) (o : Nat) (r : Nat → Nat) (I : Nat → Int32) (L : Nat → Int64) (w : Value) (ba : Nat → Nat) (BI : Nat → Int32) (bn : Nat → Int32) (aa : Nat → Nat) (AI : Nat → Int32) (an : Nat → Int32) (x : Int32) (y : Int32) (z : Int32) (bm : Nat) (am : Nat) (xj : Nat) (yj : Nat) (A : Nat → Prop) : Array Value → State → Outcome → State → Prop := va_Qi (fun (r_ : Int32) (u : Int32) => r_ = u ∧ u = f_X1_waysTo0 y z) (bx D (fun u => [(o, eRM r w I L), ((r 26), eRW ba BI), ((ba 0), aI k 8 bn), ((r 27), eRW aa AI), ((aa 0), aI k 8 an)]) A) A
abbrev rm_X1_waysTo0 : Room := { frames := 3, cells := 0, slots := 0, locals := 120 }
theorem xo_X1_waysTo : xok yX1_waysTo 3 := by unfold xok; decide +kernel
set_option maxHeartbeats 8000000 in
theorem m_X1_waysTo0 (l : Launch) (D : va_G) (k : KK) (sz : Nat) (o : Nat) (r : Nat → Nat) (I : Nat → Int32) (L : Nat → Int64) (w : Value) (ba : Nat → Nat) (BI : Nat → Int32) (bn : Nat → Int32) (aa : Nat → Nat) (AI : Nat → Int32) (an : Nat → Int32) (x : Int32) (y : Int32) (z : Int32) (bm : Nat) (am : Nat) (xj : Nat) (yj : Nat) (hbm : BI 1 = nI bm) (hb8 : bm ≤ 8) (ham : AI 1 = nI am) (ha8 : am ≤ 8) (hxj : x = nI xj) (hyj : y = nI yj) (hy8 : yj ≤ 8) (hxb : xj ≤ bm + am) (hd : bm + am ≤ xj + 0) : Met l yX1_waysTo (ws_ yX1_waysTo cX1_waysTo 4 (some .int)) rm_X1_waysTo0 (pcx D k [.ref o, .int x, .int y, .int z] sz [(o, eRM r w I L), ((r 26), eRW ba BI), ((ba 0), aI k 8 bn), ((r 27), eRW aa AI), ((aa 0), aI k 8 an)] (fun _ => True)) (q_X1_waysTo0 D k o r I L w ba BI bn aa AI an x y z bm am xj yj (va_A [(o, eRM r w I L), ((r 26), eRW ba BI), ((ba 0), aI k 8 bn), ((r 27), eRW aa AI), ((aa 0), aI k 8 an)] sz)) 0 0 (va_A [(o, eRM r w I L), ((r 26), eRW ba BI), ((ba 0), aI k 8 bn), ((r 27), eRW aa AI), ((aa 0), aI k 8 an)] sz) := by
  refine Met.start (Qc := q_X1_waysTo0 D k o r I L w ba BI bn aa AI an x y z bm am xj yj) (by decide) (Nat.le_of_ble_eq_true rfl) ?_
  intro p e s m below meth c A hx hb hr hlocks hml hown hin hts hg hP hD hA hAn hS hY hsz ls hl
  have hown : s.vm.findClass RX1 = some m.cls := hown
  have hl : lv_has ls 4 [(0, .ref o), (1, .int x), (2, .int y), (3, .int z)] := hl
  refine lv_iload_n hx hb dX1_waysTo_0 rfl (lv_at hl 2 rfl) ?_
  refine lv_if_ne (tgt := 14) hx hb dX1_waysTo_1 (by decide) (fun c1 => ?_) (fun c1 => ?_)
  · have hdead : ¬ y ≤ (BI 1) + (AI 1) - x := wt_dead hbm hb8 ham ha8 hxj hyj hxb hd hy8 c1
    refine lv_aload_n hx hb dX1_waysTo_14 rfl (lv_at hl 0 rfl) ?_
    refine va_get (D := D) (ci := 0) (v := .ref (r 26)) (C := RX1) (T := TX1) (N := 29) hx hb hts in_X1 hown hg.1 hP 0 rfl rfl 26 (Nat.le_of_ble_eq_true rfl) (hts _ q390) (fun _ h9 => h9) rfl dX1_waysTo_15 ?_
    refine va_get (D := D) (ci := 5) (v := .int (BI 1)) (C := RX6) (T := TX6) (N := 2) hx hb hts in_X6 hown hg.1 hP 1 rfl rfl 1 (Nat.le_of_ble_eq_true rfl) (hts _ q340) (fun _ h9 => h9) rfl dX1_waysTo_18 ?_
    refine lv_aload_n hx hb dX1_waysTo_21 rfl (lv_at hl 0 rfl) ?_
    refine va_get (D := D) (ci := 0) (v := .ref (r 27)) (C := RX1) (T := TX1) (N := 29) hx hb hts in_X1 hown hg.1 hP 0 rfl rfl 27 (Nat.le_of_ble_eq_true rfl) (hts _ q391) (fun _ h9 => h9) rfl dX1_waysTo_22 ?_
    refine va_get (D := D) (ci := 5) (v := .int (AI 1)) (C := RX6) (T := TX6) (N := 2) hx hb hts in_X6 hown hg.1 hP 3 rfl rfl 1 (Nat.le_of_ble_eq_true rfl) (hts _ q340) (fun _ h9 => h9) rfl dX1_waysTo_25 ?_
    refine lv_iadd hx hb dX1_waysTo_28 ?_
    refine lv_iload_n hx hb dX1_waysTo_29 rfl (lv_at hl 1 rfl) ?_
    refine lv_isub hx hb dX1_waysTo_30 ?_
    refine lv_iload_n hx hb dX1_waysTo_31 rfl (lv_at hl 2 rfl) ?_
    refine lv_icmp_ge (tgt := 37) hx hb dX1_waysTo_32 (by decide) (fun c => absurd c hdead) (fun _ => ?_)
    refine lv_iconst (v := 0) hx hb dX1_waysTo_35 ci_0 ?_
    exact xret_i hx hb hr hlocks (Nat.le_of_ble_eq_true rfl) (Nat.le_of_ble_eq_true rfl) hS.2.2 dX1_waysTo_36 (fun t ht => ⟨⟨0, 0, rfl, ⟨rfl, (by exact Eq.symm (Eq.trans (if_neg c1) (rfl)))⟩, by rw [ht]; exact hP, hD⟩, hS.F ht⟩)
  · refine lv_iload_n hx hb dX1_waysTo_4 rfl (lv_at hl 3 rfl) ?_
    have Jn1 : ∀ (v4 : (Int32)) (H : Heap) (locs : List Loc) (ls : Array Slot), v4 = f_X1_waysTo0_j1 z → (v4 = 0 ∨ v4 = 1) → va_P D vwCl [(o, eRM r w I L), ((r 26), eRW ba BI), ((ba 0), aI k 8 bn), ((r 27), eRW aa AI), ((aa 0), aI k 8 an)] H → va_D A [(o, eRM r w I L), ((r 26), eRW ba BI), ((ba 0), aI k 8 bn), ((r 27), eRW aa AI), ((aa 0), aI k 8 an)] → va_S A s.heap H locs → lv_has ls 4 [(0, .ref o), (1, .int x), (2, .int y), (3, .int z)] → W p l e rm_X1_waysTo0 s m ([.ref o, .int x, .int y, .int z] : List Value).toArray below meth c H locs 0 0 (MQ below (q_X1_waysTo0 D k o r I L w ba BI bn aa AI an x y z bm am xj yj A) ([.ref o, .int x, .int y, .int z] : List Value).toArray s 0 0 A) (F0 m 13 ls [.int v4]) := by
      intro v4 H locs ls ev4 bv4_0 hP hD hS hl
      exact xret_i hx hb hr hlocks (Nat.le_of_ble_eq_true rfl) (Nat.le_of_ble_eq_true rfl) hS.2.2 dX1_waysTo_13 (fun t ht => ⟨⟨v4, v4, rfl, ⟨rfl, (by subst ev4; exact Eq.symm (Eq.trans (if_pos c1) (rfl)))⟩, by rw [ht]; exact hP, hD⟩, hS.F ht⟩)
    refine lv_if_gt (tgt := 12) hx hb dX1_waysTo_5 (by decide) (fun c5 => ?_) (fun c5 => ?_)
    · refine lv_iconst (v := 0) hx hb dX1_waysTo_12 ci_0 ?_
      exact Jn1 0 _ _ _ (by exact Eq.symm (Eq.trans (if_pos c5) (rfl))) (Or.inl rfl) hP hD hS (lv_sub hl [0, 1, 2, 3] rfl)
    · refine lv_iconst (v := 1) hx hb dX1_waysTo_8 ci_1 ?_
      refine lv_goto (tgt := 13) hx hb dX1_waysTo_9 (by decide) ?_
      exact Jn1 1 _ _ _ (by exact Eq.symm (Eq.trans (if_neg c5) (rfl))) (Or.inr rfl) hP hD hS (lv_sub hl [0, 1, 2, 3] rfl)

def f_X1_waysTo1_j1 (z : Int32) : (Int32) :=
  if 0 < z then
    0
  else
    1
def f_X1_waysTo1 (BI : Nat → Int32) (bn : Nat → Int32) (AI : Nat → Int32) (an : Nat → Int32) (x : Int32) (y : Int32) (z : Int32) (bm : Nat) (xj : Nat) : Int32 :=
  if y = 0 then
    let v8 := f_X1_waysTo1_j1 z
    v8
  else
    if y ≤ (((BI 1) + (AI 1)) - x) then
      let u3 := f_X1_numberAt BI bn an x bm xj
      let u4 := f_X1_waysTo0 (y - 1) (z - u3)
      let u5 := f_X1_waysTo0 y z
      (u4 + u5)
    else
      0
abbrev q_X1_waysTo1 (D : va_G) (k : KK) (o : Nat) (r : Nat → Nat) (I : Nat → Int32) (L : Nat → Int64) (w : Value) (ba : Nat → Nat) (BI : Nat → Int32) (bn : Nat → Int32) (aa : Nat → Nat) (AI : Nat → Int32) (an : Nat → Int32) (x : Int32) (y : Int32) (z : Int32) (bm : Nat) (am : Nat) (xj : Nat) (yj : Nat) (A : Nat → Prop) : Array Value → State → Outcome → State → Prop := va_Qi (fun (r_ : Int32) (u : Int32) => r_ = u ∧ u = f_X1_waysTo1 BI bn AI an x y z bm xj) (bx D (fun u => [(o, eRM r w I L), ((r 26), eRW ba BI), ((ba 0), aI k 8 bn), ((r 27), eRW aa AI), ((aa 0), aI k 8 an)]) A) A
abbrev rm_X1_waysTo1 : Room := { frames := 4, cells := 0, slots := 0, locals := 160 }
set_option maxHeartbeats 8000000 in
theorem m_X1_waysTo1 (l : Launch) (D : va_G) (k : KK) (sz : Nat) (o : Nat) (r : Nat → Nat) (I : Nat → Int32) (L : Nat → Int64) (w : Value) (ba : Nat → Nat) (BI : Nat → Int32) (bn : Nat → Int32) (aa : Nat → Nat) (AI : Nat → Int32) (an : Nat → Int32) (x : Int32) (y : Int32) (z : Int32) (bm : Nat) (am : Nat) (xj : Nat) (yj : Nat) (hbm : BI 1 = nI bm) (hb8 : bm ≤ 8) (ham : AI 1 = nI am) (ha8 : am ≤ 8) (hxj : x = nI xj) (hyj : y = nI yj) (hy8 : yj ≤ 8) (hxb : xj ≤ bm + am) (hd : bm + am ≤ xj + 1) : Met l yX1_waysTo (ws_ yX1_waysTo cX1_waysTo 4 (some .int)) rm_X1_waysTo1 (pcx D k [.ref o, .int x, .int y, .int z] sz [(o, eRM r w I L), ((r 26), eRW ba BI), ((ba 0), aI k 8 bn), ((r 27), eRW aa AI), ((aa 0), aI k 8 an)] (fun _ => True)) (q_X1_waysTo1 D k o r I L w ba BI bn aa AI an x y z bm am xj yj (va_A [(o, eRM r w I L), ((r 26), eRW ba BI), ((ba 0), aI k 8 bn), ((r 27), eRW aa AI), ((aa 0), aI k 8 an)] sz)) 0 0 (va_A [(o, eRM r w I L), ((r 26), eRW ba BI), ((ba 0), aI k 8 bn), ((r 27), eRW aa AI), ((aa 0), aI k 8 an)] sz) := by
  refine Met.start (Qc := q_X1_waysTo1 D k o r I L w ba BI bn aa AI an x y z bm am xj yj) (by decide) (Nat.le_of_ble_eq_true rfl) ?_
  intro p e s m below meth c A hx hb hr hlocks hml hown hin hts hg hP hD hA hAn hS hY hsz ls hl
  have hown : s.vm.findClass RX1 = some m.cls := hown
  have hl : lv_has ls 4 [(0, .ref o), (1, .int x), (2, .int y), (3, .int z)] := hl
  refine lv_iload_n hx hb dX1_waysTo_0 rfl (lv_at hl 2 rfl) ?_
  refine lv_if_ne (tgt := 14) hx hb dX1_waysTo_1 (by decide) (fun c1 => ?_) (fun c1 => ?_)
  · refine lv_aload_n hx hb dX1_waysTo_14 rfl (lv_at hl 0 rfl) ?_
    refine va_get (D := D) (ci := 0) (v := .ref (r 26)) (C := RX1) (T := TX1) (N := 29) hx hb hts in_X1 hown hg.1 hP 0 rfl rfl 26 (Nat.le_of_ble_eq_true rfl) (hts _ q390) (fun _ h9 => h9) rfl dX1_waysTo_15 ?_
    refine va_get (D := D) (ci := 5) (v := .int (BI 1)) (C := RX6) (T := TX6) (N := 2) hx hb hts in_X6 hown hg.1 hP 1 rfl rfl 1 (Nat.le_of_ble_eq_true rfl) (hts _ q340) (fun _ h9 => h9) rfl dX1_waysTo_18 ?_
    refine lv_aload_n hx hb dX1_waysTo_21 rfl (lv_at hl 0 rfl) ?_
    refine va_get (D := D) (ci := 0) (v := .ref (r 27)) (C := RX1) (T := TX1) (N := 29) hx hb hts in_X1 hown hg.1 hP 0 rfl rfl 27 (Nat.le_of_ble_eq_true rfl) (hts _ q391) (fun _ h9 => h9) rfl dX1_waysTo_22 ?_
    refine va_get (D := D) (ci := 5) (v := .int (AI 1)) (C := RX6) (T := TX6) (N := 2) hx hb hts in_X6 hown hg.1 hP 3 rfl rfl 1 (Nat.le_of_ble_eq_true rfl) (hts _ q340) (fun _ h9 => h9) rfl dX1_waysTo_25 ?_
    refine lv_iadd hx hb dX1_waysTo_28 ?_
    refine lv_iload_n hx hb dX1_waysTo_29 rfl (lv_at hl 1 rfl) ?_
    refine lv_isub hx hb dX1_waysTo_30 ?_
    refine lv_iload_n hx hb dX1_waysTo_31 rfl (lv_at hl 2 rfl) ?_
    refine lv_icmp_ge (tgt := 37) hx hb dX1_waysTo_32 (by decide) (fun c2 => ?_) (fun c2 => ?_)
    · obtain ⟨hy1, hyl⟩ := wt_live hbm hb8 ham ha8 hxj hyj hy8 hxb c1 c2
      refine lv_aload_n hx hb dX1_waysTo_37 rfl (lv_at hl 0 rfl) ?_
      refine lv_iload_n hx hb dX1_waysTo_38 rfl (lv_at hl 1 rfl) ?_
      refine lv_iconst (v := 1) hx hb dX1_waysTo_39 ci_1 ?_
      refine lv_iadd hx hb dX1_waysTo_40 ?_
      refine lv_iload_n hx hb dX1_waysTo_41 rfl (lv_at hl 2 rfl) ?_
      refine lv_iconst (v := 1) hx hb dX1_waysTo_42 ci_1 ?_
      refine lv_isub hx hb dX1_waysTo_43 ?_
      refine lv_iload_n hx hb dX1_waysTo_44 rfl (lv_at hl 3 rfl) ?_
      refine lv_aload_n hx hb dX1_waysTo_45 rfl (lv_at hl 0 rfl) ?_
      refine lv_iload_n hx hb dX1_waysTo_46 rfl (lv_at hl 1 rfl) ?_
      refine xc_i (wc := [(o, eRM r w I L), ((r 26), eRW ba BI), ((ba 0), aI k 8 bn), ((r 27), eRW aa AI), ((aa 0), aI k 8 an)]) (wr := []) hP hD hS hA [0, 1, 2, 3, 4] [] rfl rfl rfl (by decide) (xrV ⟨hx, hb, hml, hown, hts⟩ hg (m_X1_numberAt l D k _ o r I L w ba BI bn aa AI an x bm am xj hbm hb8 ham ha8 hxj (by omega)) hP hD [0, 1, 2, 3, 4] rfl rfl trivial (ci := 0) (q0 := 0) rfl rfl rfl q1073 q1075 qs38 q83 q1076 xo_X1_numberAt ⟨rfl, rfl⟩ ⟨Nat.le_of_ble_eq_true rfl, Nat.le_of_ble_eq_true rfl⟩ hl.1 (Nat.le_of_ble_eq_true rfl) dX1_waysTo_47 ⟨Nat.le_of_ble_eq_true rfl, Nat.le_of_ble_eq_true rfl⟩ rfl) (fun u3 r_ H locs hw hP hD hS hk => ?_)
      obtain ⟨rfl, eu3⟩ := hw
      replace hP : va_P D vwCl [(o, eRM r w I L), ((r 26), eRW ba BI), ((ba 0), aI k 8 bn), ((r 27), eRW aa AI), ((aa 0), aI k 8 an)] H := hP.sub [0, 1, 2, 3, 4] rfl
      replace hD : va_D A [(o, eRM r w I L), ((r 26), eRW ba BI), ((ba 0), aI k 8 bn), ((r 27), eRW aa AI), ((aa 0), aI k 8 an)] := hD.sub [0, 1, 2, 3, 4] (by decide) rfl
      refine lv_isub hx hb dX1_waysTo_50 ?_
      refine xc_i (wc := [(o, eRM r w I L), ((r 26), eRW ba BI), ((ba 0), aI k 8 bn), ((r 27), eRW aa AI), ((aa 0), aI k 8 an)]) (wr := []) hP hD hS hA [0, 1, 2, 3, 4] [] rfl rfl rfl (by decide) (xrV ⟨hx, hb, hml, hown, hts⟩ hg (m_X1_waysTo0 l D k _ o r I L w ba BI bn aa AI an (x + 1) (y - 1) (z - u3) bm am (xj + 1) (yj - 1) hbm hb8 ham ha8 (xnadd hxj (show (1 : Int32) = nI 1 from rfl)) (xnsub hyj (show (1 : Int32) = nI 1 from rfl) (by omega)) (by omega) (by omega) (by omega)) hP hD [0, 1, 2, 3, 4] rfl rfl trivial (ci := 0) (q0 := 0) rfl rfl rfl q1069 q1071 qs37 q83 q1072 xo_X1_waysTo ⟨rfl, rfl⟩ ⟨Nat.le_of_ble_eq_true rfl, Nat.le_of_ble_eq_true rfl⟩ hl.1 (Nat.le_of_ble_eq_true rfl) dX1_waysTo_51 ⟨Nat.le_of_ble_eq_true rfl, Nat.le_of_ble_eq_true rfl⟩ rfl) (fun u4 r_ H locs hw hP hD hS hk => ?_)
      obtain ⟨rfl, eu4⟩ := hw
      replace hP : va_P D vwCl [(o, eRM r w I L), ((r 26), eRW ba BI), ((ba 0), aI k 8 bn), ((r 27), eRW aa AI), ((aa 0), aI k 8 an)] H := hP.sub [0, 1, 2, 3, 4] rfl
      replace hD : va_D A [(o, eRM r w I L), ((r 26), eRW ba BI), ((ba 0), aI k 8 bn), ((r 27), eRW aa AI), ((aa 0), aI k 8 an)] := hD.sub [0, 1, 2, 3, 4] (by decide) rfl
      refine lv_aload_n hx hb dX1_waysTo_54 rfl (lv_at hl 0 rfl) ?_
      refine lv_iload_n hx hb dX1_waysTo_55 rfl (lv_at hl 1 rfl) ?_
      refine lv_iconst (v := 1) hx hb dX1_waysTo_56 ci_1 ?_
      refine lv_iadd hx hb dX1_waysTo_57 ?_
      refine lv_iload_n hx hb dX1_waysTo_58 rfl (lv_at hl 2 rfl) ?_
      refine lv_iload_n hx hb dX1_waysTo_59 rfl (lv_at hl 3 rfl) ?_
      refine xc_i (wc := [(o, eRM r w I L), ((r 26), eRW ba BI), ((ba 0), aI k 8 bn), ((r 27), eRW aa AI), ((aa 0), aI k 8 an)]) (wr := []) hP hD hS hA [0, 1, 2, 3, 4] [] rfl rfl rfl (by decide) (xrV ⟨hx, hb, hml, hown, hts⟩ hg (m_X1_waysTo0 l D k _ o r I L w ba BI bn aa AI an (x + 1) y z bm am (xj + 1) yj hbm hb8 ham ha8 (xnadd hxj (show (1 : Int32) = nI 1 from rfl)) hyj hy8 (by omega) (by omega)) hP hD [0, 1, 2, 3, 4] rfl rfl trivial (ci := 0) (q0 := 0) rfl rfl rfl q1069 q1071 qs37 q83 q1072 xo_X1_waysTo ⟨rfl, rfl⟩ ⟨Nat.le_of_ble_eq_true rfl, Nat.le_of_ble_eq_true rfl⟩ hl.1 (Nat.le_of_ble_eq_true rfl) dX1_waysTo_60 ⟨Nat.le_of_ble_eq_true rfl, Nat.le_of_ble_eq_true rfl⟩ rfl) (fun u5 r_ H locs hw hP hD hS hk => ?_)
      obtain ⟨rfl, eu5⟩ := hw
      replace hP : va_P D vwCl [(o, eRM r w I L), ((r 26), eRW ba BI), ((ba 0), aI k 8 bn), ((r 27), eRW aa AI), ((aa 0), aI k 8 an)] H := hP.sub [0, 1, 2, 3, 4] rfl
      replace hD : va_D A [(o, eRM r w I L), ((r 26), eRW ba BI), ((ba 0), aI k 8 bn), ((r 27), eRW aa AI), ((aa 0), aI k 8 an)] := hD.sub [0, 1, 2, 3, 4] (by decide) rfl
      refine lv_iadd hx hb dX1_waysTo_63 ?_
      exact xret_i hx hb hr hlocks (Nat.le_of_ble_eq_true rfl) (Nat.le_of_ble_eq_true rfl) hS.2.2 dX1_waysTo_64 (fun t ht => ⟨⟨(u4 + u5), (u4 + u5), rfl, ⟨rfl, (by subst eu5; subst eu4; subst eu3; exact Eq.symm (Eq.trans (if_neg c1) (Eq.trans (if_pos c2) (rfl))))⟩, by rw [ht]; exact hP, hD⟩, hS.F ht⟩)
    · refine lv_iconst (v := 0) hx hb dX1_waysTo_35 ci_0 ?_
      exact xret_i hx hb hr hlocks (Nat.le_of_ble_eq_true rfl) (Nat.le_of_ble_eq_true rfl) hS.2.2 dX1_waysTo_36 (fun t ht => ⟨⟨0, 0, rfl, ⟨rfl, (by exact Eq.symm (Eq.trans (if_neg c1) (Eq.trans (if_neg c2) (rfl))))⟩, by rw [ht]; exact hP, hD⟩, hS.F ht⟩)
  · refine lv_iload_n hx hb dX1_waysTo_4 rfl (lv_at hl 3 rfl) ?_
    have Jn1 : ∀ (v8 : (Int32)) (H : Heap) (locs : List Loc) (ls : Array Slot), v8 = f_X1_waysTo1_j1 z → (v8 = 0 ∨ v8 = 1) → va_P D vwCl [(o, eRM r w I L), ((r 26), eRW ba BI), ((ba 0), aI k 8 bn), ((r 27), eRW aa AI), ((aa 0), aI k 8 an)] H → va_D A [(o, eRM r w I L), ((r 26), eRW ba BI), ((ba 0), aI k 8 bn), ((r 27), eRW aa AI), ((aa 0), aI k 8 an)] → va_S A s.heap H locs → lv_has ls 4 [(0, .ref o), (1, .int x), (2, .int y), (3, .int z)] → W p l e rm_X1_waysTo1 s m ([.ref o, .int x, .int y, .int z] : List Value).toArray below meth c H locs 0 0 (MQ below (q_X1_waysTo1 D k o r I L w ba BI bn aa AI an x y z bm am xj yj A) ([.ref o, .int x, .int y, .int z] : List Value).toArray s 0 0 A) (F0 m 13 ls [.int v8]) := by
      intro v8 H locs ls ev8 bv8_0 hP hD hS hl
      exact xret_i hx hb hr hlocks (Nat.le_of_ble_eq_true rfl) (Nat.le_of_ble_eq_true rfl) hS.2.2 dX1_waysTo_13 (fun t ht => ⟨⟨v8, v8, rfl, ⟨rfl, (by subst ev8; exact Eq.symm (Eq.trans (if_pos c1) (rfl)))⟩, by rw [ht]; exact hP, hD⟩, hS.F ht⟩)
    refine lv_if_gt (tgt := 12) hx hb dX1_waysTo_5 (by decide) (fun c9 => ?_) (fun c9 => ?_)
    · refine lv_iconst (v := 0) hx hb dX1_waysTo_12 ci_0 ?_
      exact Jn1 0 _ _ _ (by exact Eq.symm (Eq.trans (if_pos c9) (rfl))) (Or.inl rfl) hP hD hS (lv_sub hl [0, 1, 2, 3] rfl)
    · refine lv_iconst (v := 1) hx hb dX1_waysTo_8 ci_1 ?_
      refine lv_goto (tgt := 13) hx hb dX1_waysTo_9 (by decide) ?_
      exact Jn1 1 _ _ _ (by exact Eq.symm (Eq.trans (if_neg c9) (rfl))) (Or.inr rfl) hP hD hS (lv_sub hl [0, 1, 2, 3] rfl)

def f_X1_waysTo2_j1 (z : Int32) : (Int32) :=
  if 0 < z then
    0
  else
    1
def f_X1_waysTo2 (BI : Nat → Int32) (bn : Nat → Int32) (AI : Nat → Int32) (an : Nat → Int32) (x : Int32) (y : Int32) (z : Int32) (bm : Nat) (xj : Nat) : Int32 :=
  if y = 0 then
    let v8 := f_X1_waysTo2_j1 z
    v8
  else
    if y ≤ (((BI 1) + (AI 1)) - x) then
      let u3 := f_X1_numberAt BI bn an x bm xj
      let u4 := f_X1_waysTo1 BI bn AI an (x + 1) (y - 1) (z - u3) bm (xj + 1)
      let u5 := f_X1_waysTo1 BI bn AI an (x + 1) y z bm (xj + 1)
      (u4 + u5)
    else
      0
abbrev q_X1_waysTo2 (D : va_G) (k : KK) (o : Nat) (r : Nat → Nat) (I : Nat → Int32) (L : Nat → Int64) (w : Value) (ba : Nat → Nat) (BI : Nat → Int32) (bn : Nat → Int32) (aa : Nat → Nat) (AI : Nat → Int32) (an : Nat → Int32) (x : Int32) (y : Int32) (z : Int32) (bm : Nat) (am : Nat) (xj : Nat) (yj : Nat) (A : Nat → Prop) : Array Value → State → Outcome → State → Prop := va_Qi (fun (r_ : Int32) (u : Int32) => r_ = u ∧ u = f_X1_waysTo2 BI bn AI an x y z bm xj) (bx D (fun u => [(o, eRM r w I L), ((r 26), eRW ba BI), ((ba 0), aI k 8 bn), ((r 27), eRW aa AI), ((aa 0), aI k 8 an)]) A) A
abbrev rm_X1_waysTo2 : Room := { frames := 5, cells := 0, slots := 0, locals := 200 }
set_option maxHeartbeats 8000000 in
theorem m_X1_waysTo2 (l : Launch) (D : va_G) (k : KK) (sz : Nat) (o : Nat) (r : Nat → Nat) (I : Nat → Int32) (L : Nat → Int64) (w : Value) (ba : Nat → Nat) (BI : Nat → Int32) (bn : Nat → Int32) (aa : Nat → Nat) (AI : Nat → Int32) (an : Nat → Int32) (x : Int32) (y : Int32) (z : Int32) (bm : Nat) (am : Nat) (xj : Nat) (yj : Nat) (hbm : BI 1 = nI bm) (hb8 : bm ≤ 8) (ham : AI 1 = nI am) (ha8 : am ≤ 8) (hxj : x = nI xj) (hyj : y = nI yj) (hy8 : yj ≤ 8) (hxb : xj ≤ bm + am) (hd : bm + am ≤ xj + 2) : Met l yX1_waysTo (ws_ yX1_waysTo cX1_waysTo 4 (some .int)) rm_X1_waysTo2 (pcx D k [.ref o, .int x, .int y, .int z] sz [(o, eRM r w I L), ((r 26), eRW ba BI), ((ba 0), aI k 8 bn), ((r 27), eRW aa AI), ((aa 0), aI k 8 an)] (fun _ => True)) (q_X1_waysTo2 D k o r I L w ba BI bn aa AI an x y z bm am xj yj (va_A [(o, eRM r w I L), ((r 26), eRW ba BI), ((ba 0), aI k 8 bn), ((r 27), eRW aa AI), ((aa 0), aI k 8 an)] sz)) 0 0 (va_A [(o, eRM r w I L), ((r 26), eRW ba BI), ((ba 0), aI k 8 bn), ((r 27), eRW aa AI), ((aa 0), aI k 8 an)] sz) := by
  refine Met.start (Qc := q_X1_waysTo2 D k o r I L w ba BI bn aa AI an x y z bm am xj yj) (by decide) (Nat.le_of_ble_eq_true rfl) ?_
  intro p e s m below meth c A hx hb hr hlocks hml hown hin hts hg hP hD hA hAn hS hY hsz ls hl
  have hown : s.vm.findClass RX1 = some m.cls := hown
  have hl : lv_has ls 4 [(0, .ref o), (1, .int x), (2, .int y), (3, .int z)] := hl
  refine lv_iload_n hx hb dX1_waysTo_0 rfl (lv_at hl 2 rfl) ?_
  refine lv_if_ne (tgt := 14) hx hb dX1_waysTo_1 (by decide) (fun c1 => ?_) (fun c1 => ?_)
  · refine lv_aload_n hx hb dX1_waysTo_14 rfl (lv_at hl 0 rfl) ?_
    refine va_get (D := D) (ci := 0) (v := .ref (r 26)) (C := RX1) (T := TX1) (N := 29) hx hb hts in_X1 hown hg.1 hP 0 rfl rfl 26 (Nat.le_of_ble_eq_true rfl) (hts _ q390) (fun _ h9 => h9) rfl dX1_waysTo_15 ?_
    refine va_get (D := D) (ci := 5) (v := .int (BI 1)) (C := RX6) (T := TX6) (N := 2) hx hb hts in_X6 hown hg.1 hP 1 rfl rfl 1 (Nat.le_of_ble_eq_true rfl) (hts _ q340) (fun _ h9 => h9) rfl dX1_waysTo_18 ?_
    refine lv_aload_n hx hb dX1_waysTo_21 rfl (lv_at hl 0 rfl) ?_
    refine va_get (D := D) (ci := 0) (v := .ref (r 27)) (C := RX1) (T := TX1) (N := 29) hx hb hts in_X1 hown hg.1 hP 0 rfl rfl 27 (Nat.le_of_ble_eq_true rfl) (hts _ q391) (fun _ h9 => h9) rfl dX1_waysTo_22 ?_
    refine va_get (D := D) (ci := 5) (v := .int (AI 1)) (C := RX6) (T := TX6) (N := 2) hx hb hts in_X6 hown hg.1 hP 3 rfl rfl 1 (Nat.le_of_ble_eq_true rfl) (hts _ q340) (fun _ h9 => h9) rfl dX1_waysTo_25 ?_
    refine lv_iadd hx hb dX1_waysTo_28 ?_
    refine lv_iload_n hx hb dX1_waysTo_29 rfl (lv_at hl 1 rfl) ?_
    refine lv_isub hx hb dX1_waysTo_30 ?_
    refine lv_iload_n hx hb dX1_waysTo_31 rfl (lv_at hl 2 rfl) ?_
    refine lv_icmp_ge (tgt := 37) hx hb dX1_waysTo_32 (by decide) (fun c2 => ?_) (fun c2 => ?_)
    · obtain ⟨hy1, hyl⟩ := wt_live hbm hb8 ham ha8 hxj hyj hy8 hxb c1 c2
      refine lv_aload_n hx hb dX1_waysTo_37 rfl (lv_at hl 0 rfl) ?_
      refine lv_iload_n hx hb dX1_waysTo_38 rfl (lv_at hl 1 rfl) ?_
      refine lv_iconst (v := 1) hx hb dX1_waysTo_39 ci_1 ?_
      refine lv_iadd hx hb dX1_waysTo_40 ?_
      refine lv_iload_n hx hb dX1_waysTo_41 rfl (lv_at hl 2 rfl) ?_
      refine lv_iconst (v := 1) hx hb dX1_waysTo_42 ci_1 ?_
      refine lv_isub hx hb dX1_waysTo_43 ?_
      refine lv_iload_n hx hb dX1_waysTo_44 rfl (lv_at hl 3 rfl) ?_
      refine lv_aload_n hx hb dX1_waysTo_45 rfl (lv_at hl 0 rfl) ?_
      refine lv_iload_n hx hb dX1_waysTo_46 rfl (lv_at hl 1 rfl) ?_
      refine xc_i (wc := [(o, eRM r w I L), ((r 26), eRW ba BI), ((ba 0), aI k 8 bn), ((r 27), eRW aa AI), ((aa 0), aI k 8 an)]) (wr := []) hP hD hS hA [0, 1, 2, 3, 4] [] rfl rfl rfl (by decide) (xrV ⟨hx, hb, hml, hown, hts⟩ hg (m_X1_numberAt l D k _ o r I L w ba BI bn aa AI an x bm am xj hbm hb8 ham ha8 hxj (by omega)) hP hD [0, 1, 2, 3, 4] rfl rfl trivial (ci := 0) (q0 := 0) rfl rfl rfl q1073 q1075 qs38 q83 q1076 xo_X1_numberAt ⟨rfl, rfl⟩ ⟨Nat.le_of_ble_eq_true rfl, Nat.le_of_ble_eq_true rfl⟩ hl.1 (Nat.le_of_ble_eq_true rfl) dX1_waysTo_47 ⟨Nat.le_of_ble_eq_true rfl, Nat.le_of_ble_eq_true rfl⟩ rfl) (fun u3 r_ H locs hw hP hD hS hk => ?_)
      obtain ⟨rfl, eu3⟩ := hw
      replace hP : va_P D vwCl [(o, eRM r w I L), ((r 26), eRW ba BI), ((ba 0), aI k 8 bn), ((r 27), eRW aa AI), ((aa 0), aI k 8 an)] H := hP.sub [0, 1, 2, 3, 4] rfl
      replace hD : va_D A [(o, eRM r w I L), ((r 26), eRW ba BI), ((ba 0), aI k 8 bn), ((r 27), eRW aa AI), ((aa 0), aI k 8 an)] := hD.sub [0, 1, 2, 3, 4] (by decide) rfl
      refine lv_isub hx hb dX1_waysTo_50 ?_
      refine xc_i (wc := [(o, eRM r w I L), ((r 26), eRW ba BI), ((ba 0), aI k 8 bn), ((r 27), eRW aa AI), ((aa 0), aI k 8 an)]) (wr := []) hP hD hS hA [0, 1, 2, 3, 4] [] rfl rfl rfl (by decide) (xrV ⟨hx, hb, hml, hown, hts⟩ hg (m_X1_waysTo1 l D k _ o r I L w ba BI bn aa AI an (x + 1) (y - 1) (z - u3) bm am (xj + 1) (yj - 1) hbm hb8 ham ha8 (xnadd hxj (show (1 : Int32) = nI 1 from rfl)) (xnsub hyj (show (1 : Int32) = nI 1 from rfl) (by omega)) (by omega) (by omega) (by omega)) hP hD [0, 1, 2, 3, 4] rfl rfl trivial (ci := 0) (q0 := 0) rfl rfl rfl q1069 q1071 qs37 q83 q1072 xo_X1_waysTo ⟨rfl, rfl⟩ ⟨Nat.le_of_ble_eq_true rfl, Nat.le_of_ble_eq_true rfl⟩ hl.1 (Nat.le_of_ble_eq_true rfl) dX1_waysTo_51 ⟨Nat.le_of_ble_eq_true rfl, Nat.le_of_ble_eq_true rfl⟩ rfl) (fun u4 r_ H locs hw hP hD hS hk => ?_)
      obtain ⟨rfl, eu4⟩ := hw
      replace hP : va_P D vwCl [(o, eRM r w I L), ((r 26), eRW ba BI), ((ba 0), aI k 8 bn), ((r 27), eRW aa AI), ((aa 0), aI k 8 an)] H := hP.sub [0, 1, 2, 3, 4] rfl
      replace hD : va_D A [(o, eRM r w I L), ((r 26), eRW ba BI), ((ba 0), aI k 8 bn), ((r 27), eRW aa AI), ((aa 0), aI k 8 an)] := hD.sub [0, 1, 2, 3, 4] (by decide) rfl
      refine lv_aload_n hx hb dX1_waysTo_54 rfl (lv_at hl 0 rfl) ?_
      refine lv_iload_n hx hb dX1_waysTo_55 rfl (lv_at hl 1 rfl) ?_
      refine lv_iconst (v := 1) hx hb dX1_waysTo_56 ci_1 ?_
      refine lv_iadd hx hb dX1_waysTo_57 ?_
      refine lv_iload_n hx hb dX1_waysTo_58 rfl (lv_at hl 2 rfl) ?_
      refine lv_iload_n hx hb dX1_waysTo_59 rfl (lv_at hl 3 rfl) ?_
      refine xc_i (wc := [(o, eRM r w I L), ((r 26), eRW ba BI), ((ba 0), aI k 8 bn), ((r 27), eRW aa AI), ((aa 0), aI k 8 an)]) (wr := []) hP hD hS hA [0, 1, 2, 3, 4] [] rfl rfl rfl (by decide) (xrV ⟨hx, hb, hml, hown, hts⟩ hg (m_X1_waysTo1 l D k _ o r I L w ba BI bn aa AI an (x + 1) y z bm am (xj + 1) yj hbm hb8 ham ha8 (xnadd hxj (show (1 : Int32) = nI 1 from rfl)) hyj hy8 (by omega) (by omega)) hP hD [0, 1, 2, 3, 4] rfl rfl trivial (ci := 0) (q0 := 0) rfl rfl rfl q1069 q1071 qs37 q83 q1072 xo_X1_waysTo ⟨rfl, rfl⟩ ⟨Nat.le_of_ble_eq_true rfl, Nat.le_of_ble_eq_true rfl⟩ hl.1 (Nat.le_of_ble_eq_true rfl) dX1_waysTo_60 ⟨Nat.le_of_ble_eq_true rfl, Nat.le_of_ble_eq_true rfl⟩ rfl) (fun u5 r_ H locs hw hP hD hS hk => ?_)
      obtain ⟨rfl, eu5⟩ := hw
      replace hP : va_P D vwCl [(o, eRM r w I L), ((r 26), eRW ba BI), ((ba 0), aI k 8 bn), ((r 27), eRW aa AI), ((aa 0), aI k 8 an)] H := hP.sub [0, 1, 2, 3, 4] rfl
      replace hD : va_D A [(o, eRM r w I L), ((r 26), eRW ba BI), ((ba 0), aI k 8 bn), ((r 27), eRW aa AI), ((aa 0), aI k 8 an)] := hD.sub [0, 1, 2, 3, 4] (by decide) rfl
      refine lv_iadd hx hb dX1_waysTo_63 ?_
      exact xret_i hx hb hr hlocks (Nat.le_of_ble_eq_true rfl) (Nat.le_of_ble_eq_true rfl) hS.2.2 dX1_waysTo_64 (fun t ht => ⟨⟨(u4 + u5), (u4 + u5), rfl, ⟨rfl, (by subst eu5; subst eu4; subst eu3; exact Eq.symm (Eq.trans (if_neg c1) (Eq.trans (if_pos c2) (rfl))))⟩, by rw [ht]; exact hP, hD⟩, hS.F ht⟩)
    · refine lv_iconst (v := 0) hx hb dX1_waysTo_35 ci_0 ?_
      exact xret_i hx hb hr hlocks (Nat.le_of_ble_eq_true rfl) (Nat.le_of_ble_eq_true rfl) hS.2.2 dX1_waysTo_36 (fun t ht => ⟨⟨0, 0, rfl, ⟨rfl, (by exact Eq.symm (Eq.trans (if_neg c1) (Eq.trans (if_neg c2) (rfl))))⟩, by rw [ht]; exact hP, hD⟩, hS.F ht⟩)
  · refine lv_iload_n hx hb dX1_waysTo_4 rfl (lv_at hl 3 rfl) ?_
    have Jn1 : ∀ (v8 : (Int32)) (H : Heap) (locs : List Loc) (ls : Array Slot), v8 = f_X1_waysTo2_j1 z → (v8 = 0 ∨ v8 = 1) → va_P D vwCl [(o, eRM r w I L), ((r 26), eRW ba BI), ((ba 0), aI k 8 bn), ((r 27), eRW aa AI), ((aa 0), aI k 8 an)] H → va_D A [(o, eRM r w I L), ((r 26), eRW ba BI), ((ba 0), aI k 8 bn), ((r 27), eRW aa AI), ((aa 0), aI k 8 an)] → va_S A s.heap H locs → lv_has ls 4 [(0, .ref o), (1, .int x), (2, .int y), (3, .int z)] → W p l e rm_X1_waysTo2 s m ([.ref o, .int x, .int y, .int z] : List Value).toArray below meth c H locs 0 0 (MQ below (q_X1_waysTo2 D k o r I L w ba BI bn aa AI an x y z bm am xj yj A) ([.ref o, .int x, .int y, .int z] : List Value).toArray s 0 0 A) (F0 m 13 ls [.int v8]) := by
      intro v8 H locs ls ev8 bv8_0 hP hD hS hl
      exact xret_i hx hb hr hlocks (Nat.le_of_ble_eq_true rfl) (Nat.le_of_ble_eq_true rfl) hS.2.2 dX1_waysTo_13 (fun t ht => ⟨⟨v8, v8, rfl, ⟨rfl, (by subst ev8; exact Eq.symm (Eq.trans (if_pos c1) (rfl)))⟩, by rw [ht]; exact hP, hD⟩, hS.F ht⟩)
    refine lv_if_gt (tgt := 12) hx hb dX1_waysTo_5 (by decide) (fun c9 => ?_) (fun c9 => ?_)
    · refine lv_iconst (v := 0) hx hb dX1_waysTo_12 ci_0 ?_
      exact Jn1 0 _ _ _ (by exact Eq.symm (Eq.trans (if_pos c9) (rfl))) (Or.inl rfl) hP hD hS (lv_sub hl [0, 1, 2, 3] rfl)
    · refine lv_iconst (v := 1) hx hb dX1_waysTo_8 ci_1 ?_
      refine lv_goto (tgt := 13) hx hb dX1_waysTo_9 (by decide) ?_
      exact Jn1 1 _ _ _ (by exact Eq.symm (Eq.trans (if_neg c9) (rfl))) (Or.inr rfl) hP hD hS (lv_sub hl [0, 1, 2, 3] rfl)

def f_X1_waysTo3_j1 (z : Int32) : (Int32) :=
  if 0 < z then
    0
  else
    1
def f_X1_waysTo3 (BI : Nat → Int32) (bn : Nat → Int32) (AI : Nat → Int32) (an : Nat → Int32) (x : Int32) (y : Int32) (z : Int32) (bm : Nat) (xj : Nat) : Int32 :=
  if y = 0 then
    let v8 := f_X1_waysTo3_j1 z
    v8
  else
    if y ≤ (((BI 1) + (AI 1)) - x) then
      let u3 := f_X1_numberAt BI bn an x bm xj
      let u4 := f_X1_waysTo2 BI bn AI an (x + 1) (y - 1) (z - u3) bm (xj + 1)
      let u5 := f_X1_waysTo2 BI bn AI an (x + 1) y z bm (xj + 1)
      (u4 + u5)
    else
      0
abbrev q_X1_waysTo3 (D : va_G) (k : KK) (o : Nat) (r : Nat → Nat) (I : Nat → Int32) (L : Nat → Int64) (w : Value) (ba : Nat → Nat) (BI : Nat → Int32) (bn : Nat → Int32) (aa : Nat → Nat) (AI : Nat → Int32) (an : Nat → Int32) (x : Int32) (y : Int32) (z : Int32) (bm : Nat) (am : Nat) (xj : Nat) (yj : Nat) (A : Nat → Prop) : Array Value → State → Outcome → State → Prop := va_Qi (fun (r_ : Int32) (u : Int32) => r_ = u ∧ u = f_X1_waysTo3 BI bn AI an x y z bm xj) (bx D (fun u => [(o, eRM r w I L), ((r 26), eRW ba BI), ((ba 0), aI k 8 bn), ((r 27), eRW aa AI), ((aa 0), aI k 8 an)]) A) A
abbrev rm_X1_waysTo3 : Room := { frames := 6, cells := 0, slots := 0, locals := 240 }
set_option maxHeartbeats 8000000 in
theorem m_X1_waysTo3 (l : Launch) (D : va_G) (k : KK) (sz : Nat) (o : Nat) (r : Nat → Nat) (I : Nat → Int32) (L : Nat → Int64) (w : Value) (ba : Nat → Nat) (BI : Nat → Int32) (bn : Nat → Int32) (aa : Nat → Nat) (AI : Nat → Int32) (an : Nat → Int32) (x : Int32) (y : Int32) (z : Int32) (bm : Nat) (am : Nat) (xj : Nat) (yj : Nat) (hbm : BI 1 = nI bm) (hb8 : bm ≤ 8) (ham : AI 1 = nI am) (ha8 : am ≤ 8) (hxj : x = nI xj) (hyj : y = nI yj) (hy8 : yj ≤ 8) (hxb : xj ≤ bm + am) (hd : bm + am ≤ xj + 3) : Met l yX1_waysTo (ws_ yX1_waysTo cX1_waysTo 4 (some .int)) rm_X1_waysTo3 (pcx D k [.ref o, .int x, .int y, .int z] sz [(o, eRM r w I L), ((r 26), eRW ba BI), ((ba 0), aI k 8 bn), ((r 27), eRW aa AI), ((aa 0), aI k 8 an)] (fun _ => True)) (q_X1_waysTo3 D k o r I L w ba BI bn aa AI an x y z bm am xj yj (va_A [(o, eRM r w I L), ((r 26), eRW ba BI), ((ba 0), aI k 8 bn), ((r 27), eRW aa AI), ((aa 0), aI k 8 an)] sz)) 0 0 (va_A [(o, eRM r w I L), ((r 26), eRW ba BI), ((ba 0), aI k 8 bn), ((r 27), eRW aa AI), ((aa 0), aI k 8 an)] sz) := by
  refine Met.start (Qc := q_X1_waysTo3 D k o r I L w ba BI bn aa AI an x y z bm am xj yj) (by decide) (Nat.le_of_ble_eq_true rfl) ?_
  intro p e s m below meth c A hx hb hr hlocks hml hown hin hts hg hP hD hA hAn hS hY hsz ls hl
  have hown : s.vm.findClass RX1 = some m.cls := hown
  have hl : lv_has ls 4 [(0, .ref o), (1, .int x), (2, .int y), (3, .int z)] := hl
  refine lv_iload_n hx hb dX1_waysTo_0 rfl (lv_at hl 2 rfl) ?_
  refine lv_if_ne (tgt := 14) hx hb dX1_waysTo_1 (by decide) (fun c1 => ?_) (fun c1 => ?_)
  · refine lv_aload_n hx hb dX1_waysTo_14 rfl (lv_at hl 0 rfl) ?_
    refine va_get (D := D) (ci := 0) (v := .ref (r 26)) (C := RX1) (T := TX1) (N := 29) hx hb hts in_X1 hown hg.1 hP 0 rfl rfl 26 (Nat.le_of_ble_eq_true rfl) (hts _ q390) (fun _ h9 => h9) rfl dX1_waysTo_15 ?_
    refine va_get (D := D) (ci := 5) (v := .int (BI 1)) (C := RX6) (T := TX6) (N := 2) hx hb hts in_X6 hown hg.1 hP 1 rfl rfl 1 (Nat.le_of_ble_eq_true rfl) (hts _ q340) (fun _ h9 => h9) rfl dX1_waysTo_18 ?_
    refine lv_aload_n hx hb dX1_waysTo_21 rfl (lv_at hl 0 rfl) ?_
    refine va_get (D := D) (ci := 0) (v := .ref (r 27)) (C := RX1) (T := TX1) (N := 29) hx hb hts in_X1 hown hg.1 hP 0 rfl rfl 27 (Nat.le_of_ble_eq_true rfl) (hts _ q391) (fun _ h9 => h9) rfl dX1_waysTo_22 ?_
    refine va_get (D := D) (ci := 5) (v := .int (AI 1)) (C := RX6) (T := TX6) (N := 2) hx hb hts in_X6 hown hg.1 hP 3 rfl rfl 1 (Nat.le_of_ble_eq_true rfl) (hts _ q340) (fun _ h9 => h9) rfl dX1_waysTo_25 ?_
    refine lv_iadd hx hb dX1_waysTo_28 ?_
    refine lv_iload_n hx hb dX1_waysTo_29 rfl (lv_at hl 1 rfl) ?_
    refine lv_isub hx hb dX1_waysTo_30 ?_
    refine lv_iload_n hx hb dX1_waysTo_31 rfl (lv_at hl 2 rfl) ?_
    refine lv_icmp_ge (tgt := 37) hx hb dX1_waysTo_32 (by decide) (fun c2 => ?_) (fun c2 => ?_)
    · obtain ⟨hy1, hyl⟩ := wt_live hbm hb8 ham ha8 hxj hyj hy8 hxb c1 c2
      refine lv_aload_n hx hb dX1_waysTo_37 rfl (lv_at hl 0 rfl) ?_
      refine lv_iload_n hx hb dX1_waysTo_38 rfl (lv_at hl 1 rfl) ?_
      refine lv_iconst (v := 1) hx hb dX1_waysTo_39 ci_1 ?_
      refine lv_iadd hx hb dX1_waysTo_40 ?_
      refine lv_iload_n hx hb dX1_waysTo_41 rfl (lv_at hl 2 rfl) ?_
      refine lv_iconst (v := 1) hx hb dX1_waysTo_42 ci_1 ?_
      refine lv_isub hx hb dX1_waysTo_43 ?_
      refine lv_iload_n hx hb dX1_waysTo_44 rfl (lv_at hl 3 rfl) ?_
      refine lv_aload_n hx hb dX1_waysTo_45 rfl (lv_at hl 0 rfl) ?_
      refine lv_iload_n hx hb dX1_waysTo_46 rfl (lv_at hl 1 rfl) ?_
      refine xc_i (wc := [(o, eRM r w I L), ((r 26), eRW ba BI), ((ba 0), aI k 8 bn), ((r 27), eRW aa AI), ((aa 0), aI k 8 an)]) (wr := []) hP hD hS hA [0, 1, 2, 3, 4] [] rfl rfl rfl (by decide) (xrV ⟨hx, hb, hml, hown, hts⟩ hg (m_X1_numberAt l D k _ o r I L w ba BI bn aa AI an x bm am xj hbm hb8 ham ha8 hxj (by omega)) hP hD [0, 1, 2, 3, 4] rfl rfl trivial (ci := 0) (q0 := 0) rfl rfl rfl q1073 q1075 qs38 q83 q1076 xo_X1_numberAt ⟨rfl, rfl⟩ ⟨Nat.le_of_ble_eq_true rfl, Nat.le_of_ble_eq_true rfl⟩ hl.1 (Nat.le_of_ble_eq_true rfl) dX1_waysTo_47 ⟨Nat.le_of_ble_eq_true rfl, Nat.le_of_ble_eq_true rfl⟩ rfl) (fun u3 r_ H locs hw hP hD hS hk => ?_)
      obtain ⟨rfl, eu3⟩ := hw
      replace hP : va_P D vwCl [(o, eRM r w I L), ((r 26), eRW ba BI), ((ba 0), aI k 8 bn), ((r 27), eRW aa AI), ((aa 0), aI k 8 an)] H := hP.sub [0, 1, 2, 3, 4] rfl
      replace hD : va_D A [(o, eRM r w I L), ((r 26), eRW ba BI), ((ba 0), aI k 8 bn), ((r 27), eRW aa AI), ((aa 0), aI k 8 an)] := hD.sub [0, 1, 2, 3, 4] (by decide) rfl
      refine lv_isub hx hb dX1_waysTo_50 ?_
      refine xc_i (wc := [(o, eRM r w I L), ((r 26), eRW ba BI), ((ba 0), aI k 8 bn), ((r 27), eRW aa AI), ((aa 0), aI k 8 an)]) (wr := []) hP hD hS hA [0, 1, 2, 3, 4] [] rfl rfl rfl (by decide) (xrV ⟨hx, hb, hml, hown, hts⟩ hg (m_X1_waysTo2 l D k _ o r I L w ba BI bn aa AI an (x + 1) (y - 1) (z - u3) bm am (xj + 1) (yj - 1) hbm hb8 ham ha8 (xnadd hxj (show (1 : Int32) = nI 1 from rfl)) (xnsub hyj (show (1 : Int32) = nI 1 from rfl) (by omega)) (by omega) (by omega) (by omega)) hP hD [0, 1, 2, 3, 4] rfl rfl trivial (ci := 0) (q0 := 0) rfl rfl rfl q1069 q1071 qs37 q83 q1072 xo_X1_waysTo ⟨rfl, rfl⟩ ⟨Nat.le_of_ble_eq_true rfl, Nat.le_of_ble_eq_true rfl⟩ hl.1 (Nat.le_of_ble_eq_true rfl) dX1_waysTo_51 ⟨Nat.le_of_ble_eq_true rfl, Nat.le_of_ble_eq_true rfl⟩ rfl) (fun u4 r_ H locs hw hP hD hS hk => ?_)
      obtain ⟨rfl, eu4⟩ := hw
      replace hP : va_P D vwCl [(o, eRM r w I L), ((r 26), eRW ba BI), ((ba 0), aI k 8 bn), ((r 27), eRW aa AI), ((aa 0), aI k 8 an)] H := hP.sub [0, 1, 2, 3, 4] rfl
      replace hD : va_D A [(o, eRM r w I L), ((r 26), eRW ba BI), ((ba 0), aI k 8 bn), ((r 27), eRW aa AI), ((aa 0), aI k 8 an)] := hD.sub [0, 1, 2, 3, 4] (by decide) rfl
      refine lv_aload_n hx hb dX1_waysTo_54 rfl (lv_at hl 0 rfl) ?_
      refine lv_iload_n hx hb dX1_waysTo_55 rfl (lv_at hl 1 rfl) ?_
      refine lv_iconst (v := 1) hx hb dX1_waysTo_56 ci_1 ?_
      refine lv_iadd hx hb dX1_waysTo_57 ?_
      refine lv_iload_n hx hb dX1_waysTo_58 rfl (lv_at hl 2 rfl) ?_
      refine lv_iload_n hx hb dX1_waysTo_59 rfl (lv_at hl 3 rfl) ?_
      refine xc_i (wc := [(o, eRM r w I L), ((r 26), eRW ba BI), ((ba 0), aI k 8 bn), ((r 27), eRW aa AI), ((aa 0), aI k 8 an)]) (wr := []) hP hD hS hA [0, 1, 2, 3, 4] [] rfl rfl rfl (by decide) (xrV ⟨hx, hb, hml, hown, hts⟩ hg (m_X1_waysTo2 l D k _ o r I L w ba BI bn aa AI an (x + 1) y z bm am (xj + 1) yj hbm hb8 ham ha8 (xnadd hxj (show (1 : Int32) = nI 1 from rfl)) hyj hy8 (by omega) (by omega)) hP hD [0, 1, 2, 3, 4] rfl rfl trivial (ci := 0) (q0 := 0) rfl rfl rfl q1069 q1071 qs37 q83 q1072 xo_X1_waysTo ⟨rfl, rfl⟩ ⟨Nat.le_of_ble_eq_true rfl, Nat.le_of_ble_eq_true rfl⟩ hl.1 (Nat.le_of_ble_eq_true rfl) dX1_waysTo_60 ⟨Nat.le_of_ble_eq_true rfl, Nat.le_of_ble_eq_true rfl⟩ rfl) (fun u5 r_ H locs hw hP hD hS hk => ?_)
      obtain ⟨rfl, eu5⟩ := hw
      replace hP : va_P D vwCl [(o, eRM r w I L), ((r 26), eRW ba BI), ((ba 0), aI k 8 bn), ((r 27), eRW aa AI), ((aa 0), aI k 8 an)] H := hP.sub [0, 1, 2, 3, 4] rfl
      replace hD : va_D A [(o, eRM r w I L), ((r 26), eRW ba BI), ((ba 0), aI k 8 bn), ((r 27), eRW aa AI), ((aa 0), aI k 8 an)] := hD.sub [0, 1, 2, 3, 4] (by decide) rfl
      refine lv_iadd hx hb dX1_waysTo_63 ?_
      exact xret_i hx hb hr hlocks (Nat.le_of_ble_eq_true rfl) (Nat.le_of_ble_eq_true rfl) hS.2.2 dX1_waysTo_64 (fun t ht => ⟨⟨(u4 + u5), (u4 + u5), rfl, ⟨rfl, (by subst eu5; subst eu4; subst eu3; exact Eq.symm (Eq.trans (if_neg c1) (Eq.trans (if_pos c2) (rfl))))⟩, by rw [ht]; exact hP, hD⟩, hS.F ht⟩)
    · refine lv_iconst (v := 0) hx hb dX1_waysTo_35 ci_0 ?_
      exact xret_i hx hb hr hlocks (Nat.le_of_ble_eq_true rfl) (Nat.le_of_ble_eq_true rfl) hS.2.2 dX1_waysTo_36 (fun t ht => ⟨⟨0, 0, rfl, ⟨rfl, (by exact Eq.symm (Eq.trans (if_neg c1) (Eq.trans (if_neg c2) (rfl))))⟩, by rw [ht]; exact hP, hD⟩, hS.F ht⟩)
  · refine lv_iload_n hx hb dX1_waysTo_4 rfl (lv_at hl 3 rfl) ?_
    have Jn1 : ∀ (v8 : (Int32)) (H : Heap) (locs : List Loc) (ls : Array Slot), v8 = f_X1_waysTo3_j1 z → (v8 = 0 ∨ v8 = 1) → va_P D vwCl [(o, eRM r w I L), ((r 26), eRW ba BI), ((ba 0), aI k 8 bn), ((r 27), eRW aa AI), ((aa 0), aI k 8 an)] H → va_D A [(o, eRM r w I L), ((r 26), eRW ba BI), ((ba 0), aI k 8 bn), ((r 27), eRW aa AI), ((aa 0), aI k 8 an)] → va_S A s.heap H locs → lv_has ls 4 [(0, .ref o), (1, .int x), (2, .int y), (3, .int z)] → W p l e rm_X1_waysTo3 s m ([.ref o, .int x, .int y, .int z] : List Value).toArray below meth c H locs 0 0 (MQ below (q_X1_waysTo3 D k o r I L w ba BI bn aa AI an x y z bm am xj yj A) ([.ref o, .int x, .int y, .int z] : List Value).toArray s 0 0 A) (F0 m 13 ls [.int v8]) := by
      intro v8 H locs ls ev8 bv8_0 hP hD hS hl
      exact xret_i hx hb hr hlocks (Nat.le_of_ble_eq_true rfl) (Nat.le_of_ble_eq_true rfl) hS.2.2 dX1_waysTo_13 (fun t ht => ⟨⟨v8, v8, rfl, ⟨rfl, (by subst ev8; exact Eq.symm (Eq.trans (if_pos c1) (rfl)))⟩, by rw [ht]; exact hP, hD⟩, hS.F ht⟩)
    refine lv_if_gt (tgt := 12) hx hb dX1_waysTo_5 (by decide) (fun c9 => ?_) (fun c9 => ?_)
    · refine lv_iconst (v := 0) hx hb dX1_waysTo_12 ci_0 ?_
      exact Jn1 0 _ _ _ (by exact Eq.symm (Eq.trans (if_pos c9) (rfl))) (Or.inl rfl) hP hD hS (lv_sub hl [0, 1, 2, 3] rfl)
    · refine lv_iconst (v := 1) hx hb dX1_waysTo_8 ci_1 ?_
      refine lv_goto (tgt := 13) hx hb dX1_waysTo_9 (by decide) ?_
      exact Jn1 1 _ _ _ (by exact Eq.symm (Eq.trans (if_neg c9) (rfl))) (Or.inr rfl) hP hD hS (lv_sub hl [0, 1, 2, 3] rfl)

def f_X1_waysTo4_j1 (z : Int32) : (Int32) :=
  if 0 < z then
    0
  else
    1
def f_X1_waysTo4 (BI : Nat → Int32) (bn : Nat → Int32) (AI : Nat → Int32) (an : Nat → Int32) (x : Int32) (y : Int32) (z : Int32) (bm : Nat) (xj : Nat) : Int32 :=
  if y = 0 then
    let v8 := f_X1_waysTo4_j1 z
    v8
  else
    if y ≤ (((BI 1) + (AI 1)) - x) then
      let u3 := f_X1_numberAt BI bn an x bm xj
      let u4 := f_X1_waysTo3 BI bn AI an (x + 1) (y - 1) (z - u3) bm (xj + 1)
      let u5 := f_X1_waysTo3 BI bn AI an (x + 1) y z bm (xj + 1)
      (u4 + u5)
    else
      0
abbrev q_X1_waysTo4 (D : va_G) (k : KK) (o : Nat) (r : Nat → Nat) (I : Nat → Int32) (L : Nat → Int64) (w : Value) (ba : Nat → Nat) (BI : Nat → Int32) (bn : Nat → Int32) (aa : Nat → Nat) (AI : Nat → Int32) (an : Nat → Int32) (x : Int32) (y : Int32) (z : Int32) (bm : Nat) (am : Nat) (xj : Nat) (yj : Nat) (A : Nat → Prop) : Array Value → State → Outcome → State → Prop := va_Qi (fun (r_ : Int32) (u : Int32) => r_ = u ∧ u = f_X1_waysTo4 BI bn AI an x y z bm xj) (bx D (fun u => [(o, eRM r w I L), ((r 26), eRW ba BI), ((ba 0), aI k 8 bn), ((r 27), eRW aa AI), ((aa 0), aI k 8 an)]) A) A
abbrev rm_X1_waysTo4 : Room := { frames := 7, cells := 0, slots := 0, locals := 280 }
set_option maxHeartbeats 8000000 in
theorem m_X1_waysTo4 (l : Launch) (D : va_G) (k : KK) (sz : Nat) (o : Nat) (r : Nat → Nat) (I : Nat → Int32) (L : Nat → Int64) (w : Value) (ba : Nat → Nat) (BI : Nat → Int32) (bn : Nat → Int32) (aa : Nat → Nat) (AI : Nat → Int32) (an : Nat → Int32) (x : Int32) (y : Int32) (z : Int32) (bm : Nat) (am : Nat) (xj : Nat) (yj : Nat) (hbm : BI 1 = nI bm) (hb8 : bm ≤ 8) (ham : AI 1 = nI am) (ha8 : am ≤ 8) (hxj : x = nI xj) (hyj : y = nI yj) (hy8 : yj ≤ 8) (hxb : xj ≤ bm + am) (hd : bm + am ≤ xj + 4) : Met l yX1_waysTo (ws_ yX1_waysTo cX1_waysTo 4 (some .int)) rm_X1_waysTo4 (pcx D k [.ref o, .int x, .int y, .int z] sz [(o, eRM r w I L), ((r 26), eRW ba BI), ((ba 0), aI k 8 bn), ((r 27), eRW aa AI), ((aa 0), aI k 8 an)] (fun _ => True)) (q_X1_waysTo4 D k o r I L w ba BI bn aa AI an x y z bm am xj yj (va_A [(o, eRM r w I L), ((r 26), eRW ba BI), ((ba 0), aI k 8 bn), ((r 27), eRW aa AI), ((aa 0), aI k 8 an)] sz)) 0 0 (va_A [(o, eRM r w I L), ((r 26), eRW ba BI), ((ba 0), aI k 8 bn), ((r 27), eRW aa AI), ((aa 0), aI k 8 an)] sz) := by
  refine Met.start (Qc := q_X1_waysTo4 D k o r I L w ba BI bn aa AI an x y z bm am xj yj) (by decide) (Nat.le_of_ble_eq_true rfl) ?_
  intro p e s m below meth c A hx hb hr hlocks hml hown hin hts hg hP hD hA hAn hS hY hsz ls hl
  have hown : s.vm.findClass RX1 = some m.cls := hown
  have hl : lv_has ls 4 [(0, .ref o), (1, .int x), (2, .int y), (3, .int z)] := hl
  refine lv_iload_n hx hb dX1_waysTo_0 rfl (lv_at hl 2 rfl) ?_
  refine lv_if_ne (tgt := 14) hx hb dX1_waysTo_1 (by decide) (fun c1 => ?_) (fun c1 => ?_)
  · refine lv_aload_n hx hb dX1_waysTo_14 rfl (lv_at hl 0 rfl) ?_
    refine va_get (D := D) (ci := 0) (v := .ref (r 26)) (C := RX1) (T := TX1) (N := 29) hx hb hts in_X1 hown hg.1 hP 0 rfl rfl 26 (Nat.le_of_ble_eq_true rfl) (hts _ q390) (fun _ h9 => h9) rfl dX1_waysTo_15 ?_
    refine va_get (D := D) (ci := 5) (v := .int (BI 1)) (C := RX6) (T := TX6) (N := 2) hx hb hts in_X6 hown hg.1 hP 1 rfl rfl 1 (Nat.le_of_ble_eq_true rfl) (hts _ q340) (fun _ h9 => h9) rfl dX1_waysTo_18 ?_
    refine lv_aload_n hx hb dX1_waysTo_21 rfl (lv_at hl 0 rfl) ?_
    refine va_get (D := D) (ci := 0) (v := .ref (r 27)) (C := RX1) (T := TX1) (N := 29) hx hb hts in_X1 hown hg.1 hP 0 rfl rfl 27 (Nat.le_of_ble_eq_true rfl) (hts _ q391) (fun _ h9 => h9) rfl dX1_waysTo_22 ?_
    refine va_get (D := D) (ci := 5) (v := .int (AI 1)) (C := RX6) (T := TX6) (N := 2) hx hb hts in_X6 hown hg.1 hP 3 rfl rfl 1 (Nat.le_of_ble_eq_true rfl) (hts _ q340) (fun _ h9 => h9) rfl dX1_waysTo_25 ?_
    refine lv_iadd hx hb dX1_waysTo_28 ?_
    refine lv_iload_n hx hb dX1_waysTo_29 rfl (lv_at hl 1 rfl) ?_
    refine lv_isub hx hb dX1_waysTo_30 ?_
    refine lv_iload_n hx hb dX1_waysTo_31 rfl (lv_at hl 2 rfl) ?_
    refine lv_icmp_ge (tgt := 37) hx hb dX1_waysTo_32 (by decide) (fun c2 => ?_) (fun c2 => ?_)
    · obtain ⟨hy1, hyl⟩ := wt_live hbm hb8 ham ha8 hxj hyj hy8 hxb c1 c2
      refine lv_aload_n hx hb dX1_waysTo_37 rfl (lv_at hl 0 rfl) ?_
      refine lv_iload_n hx hb dX1_waysTo_38 rfl (lv_at hl 1 rfl) ?_
      refine lv_iconst (v := 1) hx hb dX1_waysTo_39 ci_1 ?_
      refine lv_iadd hx hb dX1_waysTo_40 ?_
      refine lv_iload_n hx hb dX1_waysTo_41 rfl (lv_at hl 2 rfl) ?_
      refine lv_iconst (v := 1) hx hb dX1_waysTo_42 ci_1 ?_
      refine lv_isub hx hb dX1_waysTo_43 ?_
      refine lv_iload_n hx hb dX1_waysTo_44 rfl (lv_at hl 3 rfl) ?_
      refine lv_aload_n hx hb dX1_waysTo_45 rfl (lv_at hl 0 rfl) ?_
      refine lv_iload_n hx hb dX1_waysTo_46 rfl (lv_at hl 1 rfl) ?_
      refine xc_i (wc := [(o, eRM r w I L), ((r 26), eRW ba BI), ((ba 0), aI k 8 bn), ((r 27), eRW aa AI), ((aa 0), aI k 8 an)]) (wr := []) hP hD hS hA [0, 1, 2, 3, 4] [] rfl rfl rfl (by decide) (xrV ⟨hx, hb, hml, hown, hts⟩ hg (m_X1_numberAt l D k _ o r I L w ba BI bn aa AI an x bm am xj hbm hb8 ham ha8 hxj (by omega)) hP hD [0, 1, 2, 3, 4] rfl rfl trivial (ci := 0) (q0 := 0) rfl rfl rfl q1073 q1075 qs38 q83 q1076 xo_X1_numberAt ⟨rfl, rfl⟩ ⟨Nat.le_of_ble_eq_true rfl, Nat.le_of_ble_eq_true rfl⟩ hl.1 (Nat.le_of_ble_eq_true rfl) dX1_waysTo_47 ⟨Nat.le_of_ble_eq_true rfl, Nat.le_of_ble_eq_true rfl⟩ rfl) (fun u3 r_ H locs hw hP hD hS hk => ?_)
      obtain ⟨rfl, eu3⟩ := hw
      replace hP : va_P D vwCl [(o, eRM r w I L), ((r 26), eRW ba BI), ((ba 0), aI k 8 bn), ((r 27), eRW aa AI), ((aa 0), aI k 8 an)] H := hP.sub [0, 1, 2, 3, 4] rfl
      replace hD : va_D A [(o, eRM r w I L), ((r 26), eRW ba BI), ((ba 0), aI k 8 bn), ((r 27), eRW aa AI), ((aa 0), aI k 8 an)] := hD.sub [0, 1, 2, 3, 4] (by decide) rfl
      refine lv_isub hx hb dX1_waysTo_50 ?_
      refine xc_i (wc := [(o, eRM r w I L), ((r 26), eRW ba BI), ((ba 0), aI k 8 bn), ((r 27), eRW aa AI), ((aa 0), aI k 8 an)]) (wr := []) hP hD hS hA [0, 1, 2, 3, 4] [] rfl rfl rfl (by decide) (xrV ⟨hx, hb, hml, hown, hts⟩ hg (m_X1_waysTo3 l D k _ o r I L w ba BI bn aa AI an (x + 1) (y - 1) (z - u3) bm am (xj + 1) (yj - 1) hbm hb8 ham ha8 (xnadd hxj (show (1 : Int32) = nI 1 from rfl)) (xnsub hyj (show (1 : Int32) = nI 1 from rfl) (by omega)) (by omega) (by omega) (by omega)) hP hD [0, 1, 2, 3, 4] rfl rfl trivial (ci := 0) (q0 := 0) rfl rfl rfl q1069 q1071 qs37 q83 q1072 xo_X1_waysTo ⟨rfl, rfl⟩ ⟨Nat.le_of_ble_eq_true rfl, Nat.le_of_ble_eq_true rfl⟩ hl.1 (Nat.le_of_ble_eq_true rfl) dX1_waysTo_51 ⟨Nat.le_of_ble_eq_true rfl, Nat.le_of_ble_eq_true rfl⟩ rfl) (fun u4 r_ H locs hw hP hD hS hk => ?_)
      obtain ⟨rfl, eu4⟩ := hw
      replace hP : va_P D vwCl [(o, eRM r w I L), ((r 26), eRW ba BI), ((ba 0), aI k 8 bn), ((r 27), eRW aa AI), ((aa 0), aI k 8 an)] H := hP.sub [0, 1, 2, 3, 4] rfl
      replace hD : va_D A [(o, eRM r w I L), ((r 26), eRW ba BI), ((ba 0), aI k 8 bn), ((r 27), eRW aa AI), ((aa 0), aI k 8 an)] := hD.sub [0, 1, 2, 3, 4] (by decide) rfl
      refine lv_aload_n hx hb dX1_waysTo_54 rfl (lv_at hl 0 rfl) ?_
      refine lv_iload_n hx hb dX1_waysTo_55 rfl (lv_at hl 1 rfl) ?_
      refine lv_iconst (v := 1) hx hb dX1_waysTo_56 ci_1 ?_
      refine lv_iadd hx hb dX1_waysTo_57 ?_
      refine lv_iload_n hx hb dX1_waysTo_58 rfl (lv_at hl 2 rfl) ?_
      refine lv_iload_n hx hb dX1_waysTo_59 rfl (lv_at hl 3 rfl) ?_
      refine xc_i (wc := [(o, eRM r w I L), ((r 26), eRW ba BI), ((ba 0), aI k 8 bn), ((r 27), eRW aa AI), ((aa 0), aI k 8 an)]) (wr := []) hP hD hS hA [0, 1, 2, 3, 4] [] rfl rfl rfl (by decide) (xrV ⟨hx, hb, hml, hown, hts⟩ hg (m_X1_waysTo3 l D k _ o r I L w ba BI bn aa AI an (x + 1) y z bm am (xj + 1) yj hbm hb8 ham ha8 (xnadd hxj (show (1 : Int32) = nI 1 from rfl)) hyj hy8 (by omega) (by omega)) hP hD [0, 1, 2, 3, 4] rfl rfl trivial (ci := 0) (q0 := 0) rfl rfl rfl q1069 q1071 qs37 q83 q1072 xo_X1_waysTo ⟨rfl, rfl⟩ ⟨Nat.le_of_ble_eq_true rfl, Nat.le_of_ble_eq_true rfl⟩ hl.1 (Nat.le_of_ble_eq_true rfl) dX1_waysTo_60 ⟨Nat.le_of_ble_eq_true rfl, Nat.le_of_ble_eq_true rfl⟩ rfl) (fun u5 r_ H locs hw hP hD hS hk => ?_)
      obtain ⟨rfl, eu5⟩ := hw
      replace hP : va_P D vwCl [(o, eRM r w I L), ((r 26), eRW ba BI), ((ba 0), aI k 8 bn), ((r 27), eRW aa AI), ((aa 0), aI k 8 an)] H := hP.sub [0, 1, 2, 3, 4] rfl
      replace hD : va_D A [(o, eRM r w I L), ((r 26), eRW ba BI), ((ba 0), aI k 8 bn), ((r 27), eRW aa AI), ((aa 0), aI k 8 an)] := hD.sub [0, 1, 2, 3, 4] (by decide) rfl
      refine lv_iadd hx hb dX1_waysTo_63 ?_
      exact xret_i hx hb hr hlocks (Nat.le_of_ble_eq_true rfl) (Nat.le_of_ble_eq_true rfl) hS.2.2 dX1_waysTo_64 (fun t ht => ⟨⟨(u4 + u5), (u4 + u5), rfl, ⟨rfl, (by subst eu5; subst eu4; subst eu3; exact Eq.symm (Eq.trans (if_neg c1) (Eq.trans (if_pos c2) (rfl))))⟩, by rw [ht]; exact hP, hD⟩, hS.F ht⟩)
    · refine lv_iconst (v := 0) hx hb dX1_waysTo_35 ci_0 ?_
      exact xret_i hx hb hr hlocks (Nat.le_of_ble_eq_true rfl) (Nat.le_of_ble_eq_true rfl) hS.2.2 dX1_waysTo_36 (fun t ht => ⟨⟨0, 0, rfl, ⟨rfl, (by exact Eq.symm (Eq.trans (if_neg c1) (Eq.trans (if_neg c2) (rfl))))⟩, by rw [ht]; exact hP, hD⟩, hS.F ht⟩)
  · refine lv_iload_n hx hb dX1_waysTo_4 rfl (lv_at hl 3 rfl) ?_
    have Jn1 : ∀ (v8 : (Int32)) (H : Heap) (locs : List Loc) (ls : Array Slot), v8 = f_X1_waysTo4_j1 z → (v8 = 0 ∨ v8 = 1) → va_P D vwCl [(o, eRM r w I L), ((r 26), eRW ba BI), ((ba 0), aI k 8 bn), ((r 27), eRW aa AI), ((aa 0), aI k 8 an)] H → va_D A [(o, eRM r w I L), ((r 26), eRW ba BI), ((ba 0), aI k 8 bn), ((r 27), eRW aa AI), ((aa 0), aI k 8 an)] → va_S A s.heap H locs → lv_has ls 4 [(0, .ref o), (1, .int x), (2, .int y), (3, .int z)] → W p l e rm_X1_waysTo4 s m ([.ref o, .int x, .int y, .int z] : List Value).toArray below meth c H locs 0 0 (MQ below (q_X1_waysTo4 D k o r I L w ba BI bn aa AI an x y z bm am xj yj A) ([.ref o, .int x, .int y, .int z] : List Value).toArray s 0 0 A) (F0 m 13 ls [.int v8]) := by
      intro v8 H locs ls ev8 bv8_0 hP hD hS hl
      exact xret_i hx hb hr hlocks (Nat.le_of_ble_eq_true rfl) (Nat.le_of_ble_eq_true rfl) hS.2.2 dX1_waysTo_13 (fun t ht => ⟨⟨v8, v8, rfl, ⟨rfl, (by subst ev8; exact Eq.symm (Eq.trans (if_pos c1) (rfl)))⟩, by rw [ht]; exact hP, hD⟩, hS.F ht⟩)
    refine lv_if_gt (tgt := 12) hx hb dX1_waysTo_5 (by decide) (fun c9 => ?_) (fun c9 => ?_)
    · refine lv_iconst (v := 0) hx hb dX1_waysTo_12 ci_0 ?_
      exact Jn1 0 _ _ _ (by exact Eq.symm (Eq.trans (if_pos c9) (rfl))) (Or.inl rfl) hP hD hS (lv_sub hl [0, 1, 2, 3] rfl)
    · refine lv_iconst (v := 1) hx hb dX1_waysTo_8 ci_1 ?_
      refine lv_goto (tgt := 13) hx hb dX1_waysTo_9 (by decide) ?_
      exact Jn1 1 _ _ _ (by exact Eq.symm (Eq.trans (if_neg c9) (rfl))) (Or.inr rfl) hP hD hS (lv_sub hl [0, 1, 2, 3] rfl)

def f_X1_waysTo5_j1 (z : Int32) : (Int32) :=
  if 0 < z then
    0
  else
    1
def f_X1_waysTo5 (BI : Nat → Int32) (bn : Nat → Int32) (AI : Nat → Int32) (an : Nat → Int32) (x : Int32) (y : Int32) (z : Int32) (bm : Nat) (xj : Nat) : Int32 :=
  if y = 0 then
    let v8 := f_X1_waysTo5_j1 z
    v8
  else
    if y ≤ (((BI 1) + (AI 1)) - x) then
      let u3 := f_X1_numberAt BI bn an x bm xj
      let u4 := f_X1_waysTo4 BI bn AI an (x + 1) (y - 1) (z - u3) bm (xj + 1)
      let u5 := f_X1_waysTo4 BI bn AI an (x + 1) y z bm (xj + 1)
      (u4 + u5)
    else
      0
abbrev q_X1_waysTo5 (D : va_G) (k : KK) (o : Nat) (r : Nat → Nat) (I : Nat → Int32) (L : Nat → Int64) (w : Value) (ba : Nat → Nat) (BI : Nat → Int32) (bn : Nat → Int32) (aa : Nat → Nat) (AI : Nat → Int32) (an : Nat → Int32) (x : Int32) (y : Int32) (z : Int32) (bm : Nat) (am : Nat) (xj : Nat) (yj : Nat) (A : Nat → Prop) : Array Value → State → Outcome → State → Prop := va_Qi (fun (r_ : Int32) (u : Int32) => r_ = u ∧ u = f_X1_waysTo5 BI bn AI an x y z bm xj) (bx D (fun u => [(o, eRM r w I L), ((r 26), eRW ba BI), ((ba 0), aI k 8 bn), ((r 27), eRW aa AI), ((aa 0), aI k 8 an)]) A) A
abbrev rm_X1_waysTo5 : Room := { frames := 8, cells := 0, slots := 0, locals := 320 }
set_option maxHeartbeats 8000000 in
theorem m_X1_waysTo5 (l : Launch) (D : va_G) (k : KK) (sz : Nat) (o : Nat) (r : Nat → Nat) (I : Nat → Int32) (L : Nat → Int64) (w : Value) (ba : Nat → Nat) (BI : Nat → Int32) (bn : Nat → Int32) (aa : Nat → Nat) (AI : Nat → Int32) (an : Nat → Int32) (x : Int32) (y : Int32) (z : Int32) (bm : Nat) (am : Nat) (xj : Nat) (yj : Nat) (hbm : BI 1 = nI bm) (hb8 : bm ≤ 8) (ham : AI 1 = nI am) (ha8 : am ≤ 8) (hxj : x = nI xj) (hyj : y = nI yj) (hy8 : yj ≤ 8) (hxb : xj ≤ bm + am) (hd : bm + am ≤ xj + 5) : Met l yX1_waysTo (ws_ yX1_waysTo cX1_waysTo 4 (some .int)) rm_X1_waysTo5 (pcx D k [.ref o, .int x, .int y, .int z] sz [(o, eRM r w I L), ((r 26), eRW ba BI), ((ba 0), aI k 8 bn), ((r 27), eRW aa AI), ((aa 0), aI k 8 an)] (fun _ => True)) (q_X1_waysTo5 D k o r I L w ba BI bn aa AI an x y z bm am xj yj (va_A [(o, eRM r w I L), ((r 26), eRW ba BI), ((ba 0), aI k 8 bn), ((r 27), eRW aa AI), ((aa 0), aI k 8 an)] sz)) 0 0 (va_A [(o, eRM r w I L), ((r 26), eRW ba BI), ((ba 0), aI k 8 bn), ((r 27), eRW aa AI), ((aa 0), aI k 8 an)] sz) := by
  refine Met.start (Qc := q_X1_waysTo5 D k o r I L w ba BI bn aa AI an x y z bm am xj yj) (by decide) (Nat.le_of_ble_eq_true rfl) ?_
  intro p e s m below meth c A hx hb hr hlocks hml hown hin hts hg hP hD hA hAn hS hY hsz ls hl
  have hown : s.vm.findClass RX1 = some m.cls := hown
  have hl : lv_has ls 4 [(0, .ref o), (1, .int x), (2, .int y), (3, .int z)] := hl
  refine lv_iload_n hx hb dX1_waysTo_0 rfl (lv_at hl 2 rfl) ?_
  refine lv_if_ne (tgt := 14) hx hb dX1_waysTo_1 (by decide) (fun c1 => ?_) (fun c1 => ?_)
  · refine lv_aload_n hx hb dX1_waysTo_14 rfl (lv_at hl 0 rfl) ?_
    refine va_get (D := D) (ci := 0) (v := .ref (r 26)) (C := RX1) (T := TX1) (N := 29) hx hb hts in_X1 hown hg.1 hP 0 rfl rfl 26 (Nat.le_of_ble_eq_true rfl) (hts _ q390) (fun _ h9 => h9) rfl dX1_waysTo_15 ?_
    refine va_get (D := D) (ci := 5) (v := .int (BI 1)) (C := RX6) (T := TX6) (N := 2) hx hb hts in_X6 hown hg.1 hP 1 rfl rfl 1 (Nat.le_of_ble_eq_true rfl) (hts _ q340) (fun _ h9 => h9) rfl dX1_waysTo_18 ?_
    refine lv_aload_n hx hb dX1_waysTo_21 rfl (lv_at hl 0 rfl) ?_
    refine va_get (D := D) (ci := 0) (v := .ref (r 27)) (C := RX1) (T := TX1) (N := 29) hx hb hts in_X1 hown hg.1 hP 0 rfl rfl 27 (Nat.le_of_ble_eq_true rfl) (hts _ q391) (fun _ h9 => h9) rfl dX1_waysTo_22 ?_
    refine va_get (D := D) (ci := 5) (v := .int (AI 1)) (C := RX6) (T := TX6) (N := 2) hx hb hts in_X6 hown hg.1 hP 3 rfl rfl 1 (Nat.le_of_ble_eq_true rfl) (hts _ q340) (fun _ h9 => h9) rfl dX1_waysTo_25 ?_
    refine lv_iadd hx hb dX1_waysTo_28 ?_
    refine lv_iload_n hx hb dX1_waysTo_29 rfl (lv_at hl 1 rfl) ?_
    refine lv_isub hx hb dX1_waysTo_30 ?_
    refine lv_iload_n hx hb dX1_waysTo_31 rfl (lv_at hl 2 rfl) ?_
    refine lv_icmp_ge (tgt := 37) hx hb dX1_waysTo_32 (by decide) (fun c2 => ?_) (fun c2 => ?_)
    · obtain ⟨hy1, hyl⟩ := wt_live hbm hb8 ham ha8 hxj hyj hy8 hxb c1 c2
      refine lv_aload_n hx hb dX1_waysTo_37 rfl (lv_at hl 0 rfl) ?_
      refine lv_iload_n hx hb dX1_waysTo_38 rfl (lv_at hl 1 rfl) ?_
      refine lv_iconst (v := 1) hx hb dX1_waysTo_39 ci_1 ?_
      refine lv_iadd hx hb dX1_waysTo_40 ?_
      refine lv_iload_n hx hb dX1_waysTo_41 rfl (lv_at hl 2 rfl) ?_
      refine lv_iconst (v := 1) hx hb dX1_waysTo_42 ci_1 ?_
      refine lv_isub hx hb dX1_waysTo_43 ?_
      refine lv_iload_n hx hb dX1_waysTo_44 rfl (lv_at hl 3 rfl) ?_
      refine lv_aload_n hx hb dX1_waysTo_45 rfl (lv_at hl 0 rfl) ?_
      refine lv_iload_n hx hb dX1_waysTo_46 rfl (lv_at hl 1 rfl) ?_
      refine xc_i (wc := [(o, eRM r w I L), ((r 26), eRW ba BI), ((ba 0), aI k 8 bn), ((r 27), eRW aa AI), ((aa 0), aI k 8 an)]) (wr := []) hP hD hS hA [0, 1, 2, 3, 4] [] rfl rfl rfl (by decide) (xrV ⟨hx, hb, hml, hown, hts⟩ hg (m_X1_numberAt l D k _ o r I L w ba BI bn aa AI an x bm am xj hbm hb8 ham ha8 hxj (by omega)) hP hD [0, 1, 2, 3, 4] rfl rfl trivial (ci := 0) (q0 := 0) rfl rfl rfl q1073 q1075 qs38 q83 q1076 xo_X1_numberAt ⟨rfl, rfl⟩ ⟨Nat.le_of_ble_eq_true rfl, Nat.le_of_ble_eq_true rfl⟩ hl.1 (Nat.le_of_ble_eq_true rfl) dX1_waysTo_47 ⟨Nat.le_of_ble_eq_true rfl, Nat.le_of_ble_eq_true rfl⟩ rfl) (fun u3 r_ H locs hw hP hD hS hk => ?_)
      obtain ⟨rfl, eu3⟩ := hw
      replace hP : va_P D vwCl [(o, eRM r w I L), ((r 26), eRW ba BI), ((ba 0), aI k 8 bn), ((r 27), eRW aa AI), ((aa 0), aI k 8 an)] H := hP.sub [0, 1, 2, 3, 4] rfl
      replace hD : va_D A [(o, eRM r w I L), ((r 26), eRW ba BI), ((ba 0), aI k 8 bn), ((r 27), eRW aa AI), ((aa 0), aI k 8 an)] := hD.sub [0, 1, 2, 3, 4] (by decide) rfl
      refine lv_isub hx hb dX1_waysTo_50 ?_
      refine xc_i (wc := [(o, eRM r w I L), ((r 26), eRW ba BI), ((ba 0), aI k 8 bn), ((r 27), eRW aa AI), ((aa 0), aI k 8 an)]) (wr := []) hP hD hS hA [0, 1, 2, 3, 4] [] rfl rfl rfl (by decide) (xrV ⟨hx, hb, hml, hown, hts⟩ hg (m_X1_waysTo4 l D k _ o r I L w ba BI bn aa AI an (x + 1) (y - 1) (z - u3) bm am (xj + 1) (yj - 1) hbm hb8 ham ha8 (xnadd hxj (show (1 : Int32) = nI 1 from rfl)) (xnsub hyj (show (1 : Int32) = nI 1 from rfl) (by omega)) (by omega) (by omega) (by omega)) hP hD [0, 1, 2, 3, 4] rfl rfl trivial (ci := 0) (q0 := 0) rfl rfl rfl q1069 q1071 qs37 q83 q1072 xo_X1_waysTo ⟨rfl, rfl⟩ ⟨Nat.le_of_ble_eq_true rfl, Nat.le_of_ble_eq_true rfl⟩ hl.1 (Nat.le_of_ble_eq_true rfl) dX1_waysTo_51 ⟨Nat.le_of_ble_eq_true rfl, Nat.le_of_ble_eq_true rfl⟩ rfl) (fun u4 r_ H locs hw hP hD hS hk => ?_)
      obtain ⟨rfl, eu4⟩ := hw
      replace hP : va_P D vwCl [(o, eRM r w I L), ((r 26), eRW ba BI), ((ba 0), aI k 8 bn), ((r 27), eRW aa AI), ((aa 0), aI k 8 an)] H := hP.sub [0, 1, 2, 3, 4] rfl
      replace hD : va_D A [(o, eRM r w I L), ((r 26), eRW ba BI), ((ba 0), aI k 8 bn), ((r 27), eRW aa AI), ((aa 0), aI k 8 an)] := hD.sub [0, 1, 2, 3, 4] (by decide) rfl
      refine lv_aload_n hx hb dX1_waysTo_54 rfl (lv_at hl 0 rfl) ?_
      refine lv_iload_n hx hb dX1_waysTo_55 rfl (lv_at hl 1 rfl) ?_
      refine lv_iconst (v := 1) hx hb dX1_waysTo_56 ci_1 ?_
      refine lv_iadd hx hb dX1_waysTo_57 ?_
      refine lv_iload_n hx hb dX1_waysTo_58 rfl (lv_at hl 2 rfl) ?_
      refine lv_iload_n hx hb dX1_waysTo_59 rfl (lv_at hl 3 rfl) ?_
      refine xc_i (wc := [(o, eRM r w I L), ((r 26), eRW ba BI), ((ba 0), aI k 8 bn), ((r 27), eRW aa AI), ((aa 0), aI k 8 an)]) (wr := []) hP hD hS hA [0, 1, 2, 3, 4] [] rfl rfl rfl (by decide) (xrV ⟨hx, hb, hml, hown, hts⟩ hg (m_X1_waysTo4 l D k _ o r I L w ba BI bn aa AI an (x + 1) y z bm am (xj + 1) yj hbm hb8 ham ha8 (xnadd hxj (show (1 : Int32) = nI 1 from rfl)) hyj hy8 (by omega) (by omega)) hP hD [0, 1, 2, 3, 4] rfl rfl trivial (ci := 0) (q0 := 0) rfl rfl rfl q1069 q1071 qs37 q83 q1072 xo_X1_waysTo ⟨rfl, rfl⟩ ⟨Nat.le_of_ble_eq_true rfl, Nat.le_of_ble_eq_true rfl⟩ hl.1 (Nat.le_of_ble_eq_true rfl) dX1_waysTo_60 ⟨Nat.le_of_ble_eq_true rfl, Nat.le_of_ble_eq_true rfl⟩ rfl) (fun u5 r_ H locs hw hP hD hS hk => ?_)
      obtain ⟨rfl, eu5⟩ := hw
      replace hP : va_P D vwCl [(o, eRM r w I L), ((r 26), eRW ba BI), ((ba 0), aI k 8 bn), ((r 27), eRW aa AI), ((aa 0), aI k 8 an)] H := hP.sub [0, 1, 2, 3, 4] rfl
      replace hD : va_D A [(o, eRM r w I L), ((r 26), eRW ba BI), ((ba 0), aI k 8 bn), ((r 27), eRW aa AI), ((aa 0), aI k 8 an)] := hD.sub [0, 1, 2, 3, 4] (by decide) rfl
      refine lv_iadd hx hb dX1_waysTo_63 ?_
      exact xret_i hx hb hr hlocks (Nat.le_of_ble_eq_true rfl) (Nat.le_of_ble_eq_true rfl) hS.2.2 dX1_waysTo_64 (fun t ht => ⟨⟨(u4 + u5), (u4 + u5), rfl, ⟨rfl, (by subst eu5; subst eu4; subst eu3; exact Eq.symm (Eq.trans (if_neg c1) (Eq.trans (if_pos c2) (rfl))))⟩, by rw [ht]; exact hP, hD⟩, hS.F ht⟩)
    · refine lv_iconst (v := 0) hx hb dX1_waysTo_35 ci_0 ?_
      exact xret_i hx hb hr hlocks (Nat.le_of_ble_eq_true rfl) (Nat.le_of_ble_eq_true rfl) hS.2.2 dX1_waysTo_36 (fun t ht => ⟨⟨0, 0, rfl, ⟨rfl, (by exact Eq.symm (Eq.trans (if_neg c1) (Eq.trans (if_neg c2) (rfl))))⟩, by rw [ht]; exact hP, hD⟩, hS.F ht⟩)
  · refine lv_iload_n hx hb dX1_waysTo_4 rfl (lv_at hl 3 rfl) ?_
    have Jn1 : ∀ (v8 : (Int32)) (H : Heap) (locs : List Loc) (ls : Array Slot), v8 = f_X1_waysTo5_j1 z → (v8 = 0 ∨ v8 = 1) → va_P D vwCl [(o, eRM r w I L), ((r 26), eRW ba BI), ((ba 0), aI k 8 bn), ((r 27), eRW aa AI), ((aa 0), aI k 8 an)] H → va_D A [(o, eRM r w I L), ((r 26), eRW ba BI), ((ba 0), aI k 8 bn), ((r 27), eRW aa AI), ((aa 0), aI k 8 an)] → va_S A s.heap H locs → lv_has ls 4 [(0, .ref o), (1, .int x), (2, .int y), (3, .int z)] → W p l e rm_X1_waysTo5 s m ([.ref o, .int x, .int y, .int z] : List Value).toArray below meth c H locs 0 0 (MQ below (q_X1_waysTo5 D k o r I L w ba BI bn aa AI an x y z bm am xj yj A) ([.ref o, .int x, .int y, .int z] : List Value).toArray s 0 0 A) (F0 m 13 ls [.int v8]) := by
      intro v8 H locs ls ev8 bv8_0 hP hD hS hl
      exact xret_i hx hb hr hlocks (Nat.le_of_ble_eq_true rfl) (Nat.le_of_ble_eq_true rfl) hS.2.2 dX1_waysTo_13 (fun t ht => ⟨⟨v8, v8, rfl, ⟨rfl, (by subst ev8; exact Eq.symm (Eq.trans (if_pos c1) (rfl)))⟩, by rw [ht]; exact hP, hD⟩, hS.F ht⟩)
    refine lv_if_gt (tgt := 12) hx hb dX1_waysTo_5 (by decide) (fun c9 => ?_) (fun c9 => ?_)
    · refine lv_iconst (v := 0) hx hb dX1_waysTo_12 ci_0 ?_
      exact Jn1 0 _ _ _ (by exact Eq.symm (Eq.trans (if_pos c9) (rfl))) (Or.inl rfl) hP hD hS (lv_sub hl [0, 1, 2, 3] rfl)
    · refine lv_iconst (v := 1) hx hb dX1_waysTo_8 ci_1 ?_
      refine lv_goto (tgt := 13) hx hb dX1_waysTo_9 (by decide) ?_
      exact Jn1 1 _ _ _ (by exact Eq.symm (Eq.trans (if_neg c9) (rfl))) (Or.inr rfl) hP hD hS (lv_sub hl [0, 1, 2, 3] rfl)

def f_X1_waysTo6_j1 (z : Int32) : (Int32) :=
  if 0 < z then
    0
  else
    1
def f_X1_waysTo6 (BI : Nat → Int32) (bn : Nat → Int32) (AI : Nat → Int32) (an : Nat → Int32) (x : Int32) (y : Int32) (z : Int32) (bm : Nat) (xj : Nat) : Int32 :=
  if y = 0 then
    let v8 := f_X1_waysTo6_j1 z
    v8
  else
    if y ≤ (((BI 1) + (AI 1)) - x) then
      let u3 := f_X1_numberAt BI bn an x bm xj
      let u4 := f_X1_waysTo5 BI bn AI an (x + 1) (y - 1) (z - u3) bm (xj + 1)
      let u5 := f_X1_waysTo5 BI bn AI an (x + 1) y z bm (xj + 1)
      (u4 + u5)
    else
      0
abbrev q_X1_waysTo6 (D : va_G) (k : KK) (o : Nat) (r : Nat → Nat) (I : Nat → Int32) (L : Nat → Int64) (w : Value) (ba : Nat → Nat) (BI : Nat → Int32) (bn : Nat → Int32) (aa : Nat → Nat) (AI : Nat → Int32) (an : Nat → Int32) (x : Int32) (y : Int32) (z : Int32) (bm : Nat) (am : Nat) (xj : Nat) (yj : Nat) (A : Nat → Prop) : Array Value → State → Outcome → State → Prop := va_Qi (fun (r_ : Int32) (u : Int32) => r_ = u ∧ u = f_X1_waysTo6 BI bn AI an x y z bm xj) (bx D (fun u => [(o, eRM r w I L), ((r 26), eRW ba BI), ((ba 0), aI k 8 bn), ((r 27), eRW aa AI), ((aa 0), aI k 8 an)]) A) A
abbrev rm_X1_waysTo6 : Room := { frames := 9, cells := 0, slots := 0, locals := 360 }
set_option maxHeartbeats 8000000 in
theorem m_X1_waysTo6 (l : Launch) (D : va_G) (k : KK) (sz : Nat) (o : Nat) (r : Nat → Nat) (I : Nat → Int32) (L : Nat → Int64) (w : Value) (ba : Nat → Nat) (BI : Nat → Int32) (bn : Nat → Int32) (aa : Nat → Nat) (AI : Nat → Int32) (an : Nat → Int32) (x : Int32) (y : Int32) (z : Int32) (bm : Nat) (am : Nat) (xj : Nat) (yj : Nat) (hbm : BI 1 = nI bm) (hb8 : bm ≤ 8) (ham : AI 1 = nI am) (ha8 : am ≤ 8) (hxj : x = nI xj) (hyj : y = nI yj) (hy8 : yj ≤ 8) (hxb : xj ≤ bm + am) (hd : bm + am ≤ xj + 6) : Met l yX1_waysTo (ws_ yX1_waysTo cX1_waysTo 4 (some .int)) rm_X1_waysTo6 (pcx D k [.ref o, .int x, .int y, .int z] sz [(o, eRM r w I L), ((r 26), eRW ba BI), ((ba 0), aI k 8 bn), ((r 27), eRW aa AI), ((aa 0), aI k 8 an)] (fun _ => True)) (q_X1_waysTo6 D k o r I L w ba BI bn aa AI an x y z bm am xj yj (va_A [(o, eRM r w I L), ((r 26), eRW ba BI), ((ba 0), aI k 8 bn), ((r 27), eRW aa AI), ((aa 0), aI k 8 an)] sz)) 0 0 (va_A [(o, eRM r w I L), ((r 26), eRW ba BI), ((ba 0), aI k 8 bn), ((r 27), eRW aa AI), ((aa 0), aI k 8 an)] sz) := by
  refine Met.start (Qc := q_X1_waysTo6 D k o r I L w ba BI bn aa AI an x y z bm am xj yj) (by decide) (Nat.le_of_ble_eq_true rfl) ?_
  intro p e s m below meth c A hx hb hr hlocks hml hown hin hts hg hP hD hA hAn hS hY hsz ls hl
  have hown : s.vm.findClass RX1 = some m.cls := hown
  have hl : lv_has ls 4 [(0, .ref o), (1, .int x), (2, .int y), (3, .int z)] := hl
  refine lv_iload_n hx hb dX1_waysTo_0 rfl (lv_at hl 2 rfl) ?_
  refine lv_if_ne (tgt := 14) hx hb dX1_waysTo_1 (by decide) (fun c1 => ?_) (fun c1 => ?_)
  · refine lv_aload_n hx hb dX1_waysTo_14 rfl (lv_at hl 0 rfl) ?_
    refine va_get (D := D) (ci := 0) (v := .ref (r 26)) (C := RX1) (T := TX1) (N := 29) hx hb hts in_X1 hown hg.1 hP 0 rfl rfl 26 (Nat.le_of_ble_eq_true rfl) (hts _ q390) (fun _ h9 => h9) rfl dX1_waysTo_15 ?_
    refine va_get (D := D) (ci := 5) (v := .int (BI 1)) (C := RX6) (T := TX6) (N := 2) hx hb hts in_X6 hown hg.1 hP 1 rfl rfl 1 (Nat.le_of_ble_eq_true rfl) (hts _ q340) (fun _ h9 => h9) rfl dX1_waysTo_18 ?_
    refine lv_aload_n hx hb dX1_waysTo_21 rfl (lv_at hl 0 rfl) ?_
    refine va_get (D := D) (ci := 0) (v := .ref (r 27)) (C := RX1) (T := TX1) (N := 29) hx hb hts in_X1 hown hg.1 hP 0 rfl rfl 27 (Nat.le_of_ble_eq_true rfl) (hts _ q391) (fun _ h9 => h9) rfl dX1_waysTo_22 ?_
    refine va_get (D := D) (ci := 5) (v := .int (AI 1)) (C := RX6) (T := TX6) (N := 2) hx hb hts in_X6 hown hg.1 hP 3 rfl rfl 1 (Nat.le_of_ble_eq_true rfl) (hts _ q340) (fun _ h9 => h9) rfl dX1_waysTo_25 ?_
    refine lv_iadd hx hb dX1_waysTo_28 ?_
    refine lv_iload_n hx hb dX1_waysTo_29 rfl (lv_at hl 1 rfl) ?_
    refine lv_isub hx hb dX1_waysTo_30 ?_
    refine lv_iload_n hx hb dX1_waysTo_31 rfl (lv_at hl 2 rfl) ?_
    refine lv_icmp_ge (tgt := 37) hx hb dX1_waysTo_32 (by decide) (fun c2 => ?_) (fun c2 => ?_)
    · obtain ⟨hy1, hyl⟩ := wt_live hbm hb8 ham ha8 hxj hyj hy8 hxb c1 c2
      refine lv_aload_n hx hb dX1_waysTo_37 rfl (lv_at hl 0 rfl) ?_
      refine lv_iload_n hx hb dX1_waysTo_38 rfl (lv_at hl 1 rfl) ?_
      refine lv_iconst (v := 1) hx hb dX1_waysTo_39 ci_1 ?_
      refine lv_iadd hx hb dX1_waysTo_40 ?_
      refine lv_iload_n hx hb dX1_waysTo_41 rfl (lv_at hl 2 rfl) ?_
      refine lv_iconst (v := 1) hx hb dX1_waysTo_42 ci_1 ?_
      refine lv_isub hx hb dX1_waysTo_43 ?_
      refine lv_iload_n hx hb dX1_waysTo_44 rfl (lv_at hl 3 rfl) ?_
      refine lv_aload_n hx hb dX1_waysTo_45 rfl (lv_at hl 0 rfl) ?_
      refine lv_iload_n hx hb dX1_waysTo_46 rfl (lv_at hl 1 rfl) ?_
      refine xc_i (wc := [(o, eRM r w I L), ((r 26), eRW ba BI), ((ba 0), aI k 8 bn), ((r 27), eRW aa AI), ((aa 0), aI k 8 an)]) (wr := []) hP hD hS hA [0, 1, 2, 3, 4] [] rfl rfl rfl (by decide) (xrV ⟨hx, hb, hml, hown, hts⟩ hg (m_X1_numberAt l D k _ o r I L w ba BI bn aa AI an x bm am xj hbm hb8 ham ha8 hxj (by omega)) hP hD [0, 1, 2, 3, 4] rfl rfl trivial (ci := 0) (q0 := 0) rfl rfl rfl q1073 q1075 qs38 q83 q1076 xo_X1_numberAt ⟨rfl, rfl⟩ ⟨Nat.le_of_ble_eq_true rfl, Nat.le_of_ble_eq_true rfl⟩ hl.1 (Nat.le_of_ble_eq_true rfl) dX1_waysTo_47 ⟨Nat.le_of_ble_eq_true rfl, Nat.le_of_ble_eq_true rfl⟩ rfl) (fun u3 r_ H locs hw hP hD hS hk => ?_)
      obtain ⟨rfl, eu3⟩ := hw
      replace hP : va_P D vwCl [(o, eRM r w I L), ((r 26), eRW ba BI), ((ba 0), aI k 8 bn), ((r 27), eRW aa AI), ((aa 0), aI k 8 an)] H := hP.sub [0, 1, 2, 3, 4] rfl
      replace hD : va_D A [(o, eRM r w I L), ((r 26), eRW ba BI), ((ba 0), aI k 8 bn), ((r 27), eRW aa AI), ((aa 0), aI k 8 an)] := hD.sub [0, 1, 2, 3, 4] (by decide) rfl
      refine lv_isub hx hb dX1_waysTo_50 ?_
      refine xc_i (wc := [(o, eRM r w I L), ((r 26), eRW ba BI), ((ba 0), aI k 8 bn), ((r 27), eRW aa AI), ((aa 0), aI k 8 an)]) (wr := []) hP hD hS hA [0, 1, 2, 3, 4] [] rfl rfl rfl (by decide) (xrV ⟨hx, hb, hml, hown, hts⟩ hg (m_X1_waysTo5 l D k _ o r I L w ba BI bn aa AI an (x + 1) (y - 1) (z - u3) bm am (xj + 1) (yj - 1) hbm hb8 ham ha8 (xnadd hxj (show (1 : Int32) = nI 1 from rfl)) (xnsub hyj (show (1 : Int32) = nI 1 from rfl) (by omega)) (by omega) (by omega) (by omega)) hP hD [0, 1, 2, 3, 4] rfl rfl trivial (ci := 0) (q0 := 0) rfl rfl rfl q1069 q1071 qs37 q83 q1072 xo_X1_waysTo ⟨rfl, rfl⟩ ⟨Nat.le_of_ble_eq_true rfl, Nat.le_of_ble_eq_true rfl⟩ hl.1 (Nat.le_of_ble_eq_true rfl) dX1_waysTo_51 ⟨Nat.le_of_ble_eq_true rfl, Nat.le_of_ble_eq_true rfl⟩ rfl) (fun u4 r_ H locs hw hP hD hS hk => ?_)
      obtain ⟨rfl, eu4⟩ := hw
      replace hP : va_P D vwCl [(o, eRM r w I L), ((r 26), eRW ba BI), ((ba 0), aI k 8 bn), ((r 27), eRW aa AI), ((aa 0), aI k 8 an)] H := hP.sub [0, 1, 2, 3, 4] rfl
      replace hD : va_D A [(o, eRM r w I L), ((r 26), eRW ba BI), ((ba 0), aI k 8 bn), ((r 27), eRW aa AI), ((aa 0), aI k 8 an)] := hD.sub [0, 1, 2, 3, 4] (by decide) rfl
      refine lv_aload_n hx hb dX1_waysTo_54 rfl (lv_at hl 0 rfl) ?_
      refine lv_iload_n hx hb dX1_waysTo_55 rfl (lv_at hl 1 rfl) ?_
      refine lv_iconst (v := 1) hx hb dX1_waysTo_56 ci_1 ?_
      refine lv_iadd hx hb dX1_waysTo_57 ?_
      refine lv_iload_n hx hb dX1_waysTo_58 rfl (lv_at hl 2 rfl) ?_
      refine lv_iload_n hx hb dX1_waysTo_59 rfl (lv_at hl 3 rfl) ?_
      refine xc_i (wc := [(o, eRM r w I L), ((r 26), eRW ba BI), ((ba 0), aI k 8 bn), ((r 27), eRW aa AI), ((aa 0), aI k 8 an)]) (wr := []) hP hD hS hA [0, 1, 2, 3, 4] [] rfl rfl rfl (by decide) (xrV ⟨hx, hb, hml, hown, hts⟩ hg (m_X1_waysTo5 l D k _ o r I L w ba BI bn aa AI an (x + 1) y z bm am (xj + 1) yj hbm hb8 ham ha8 (xnadd hxj (show (1 : Int32) = nI 1 from rfl)) hyj hy8 (by omega) (by omega)) hP hD [0, 1, 2, 3, 4] rfl rfl trivial (ci := 0) (q0 := 0) rfl rfl rfl q1069 q1071 qs37 q83 q1072 xo_X1_waysTo ⟨rfl, rfl⟩ ⟨Nat.le_of_ble_eq_true rfl, Nat.le_of_ble_eq_true rfl⟩ hl.1 (Nat.le_of_ble_eq_true rfl) dX1_waysTo_60 ⟨Nat.le_of_ble_eq_true rfl, Nat.le_of_ble_eq_true rfl⟩ rfl) (fun u5 r_ H locs hw hP hD hS hk => ?_)
      obtain ⟨rfl, eu5⟩ := hw
      replace hP : va_P D vwCl [(o, eRM r w I L), ((r 26), eRW ba BI), ((ba 0), aI k 8 bn), ((r 27), eRW aa AI), ((aa 0), aI k 8 an)] H := hP.sub [0, 1, 2, 3, 4] rfl
      replace hD : va_D A [(o, eRM r w I L), ((r 26), eRW ba BI), ((ba 0), aI k 8 bn), ((r 27), eRW aa AI), ((aa 0), aI k 8 an)] := hD.sub [0, 1, 2, 3, 4] (by decide) rfl
      refine lv_iadd hx hb dX1_waysTo_63 ?_
      exact xret_i hx hb hr hlocks (Nat.le_of_ble_eq_true rfl) (Nat.le_of_ble_eq_true rfl) hS.2.2 dX1_waysTo_64 (fun t ht => ⟨⟨(u4 + u5), (u4 + u5), rfl, ⟨rfl, (by subst eu5; subst eu4; subst eu3; exact Eq.symm (Eq.trans (if_neg c1) (Eq.trans (if_pos c2) (rfl))))⟩, by rw [ht]; exact hP, hD⟩, hS.F ht⟩)
    · refine lv_iconst (v := 0) hx hb dX1_waysTo_35 ci_0 ?_
      exact xret_i hx hb hr hlocks (Nat.le_of_ble_eq_true rfl) (Nat.le_of_ble_eq_true rfl) hS.2.2 dX1_waysTo_36 (fun t ht => ⟨⟨0, 0, rfl, ⟨rfl, (by exact Eq.symm (Eq.trans (if_neg c1) (Eq.trans (if_neg c2) (rfl))))⟩, by rw [ht]; exact hP, hD⟩, hS.F ht⟩)
  · refine lv_iload_n hx hb dX1_waysTo_4 rfl (lv_at hl 3 rfl) ?_
    have Jn1 : ∀ (v8 : (Int32)) (H : Heap) (locs : List Loc) (ls : Array Slot), v8 = f_X1_waysTo6_j1 z → (v8 = 0 ∨ v8 = 1) → va_P D vwCl [(o, eRM r w I L), ((r 26), eRW ba BI), ((ba 0), aI k 8 bn), ((r 27), eRW aa AI), ((aa 0), aI k 8 an)] H → va_D A [(o, eRM r w I L), ((r 26), eRW ba BI), ((ba 0), aI k 8 bn), ((r 27), eRW aa AI), ((aa 0), aI k 8 an)] → va_S A s.heap H locs → lv_has ls 4 [(0, .ref o), (1, .int x), (2, .int y), (3, .int z)] → W p l e rm_X1_waysTo6 s m ([.ref o, .int x, .int y, .int z] : List Value).toArray below meth c H locs 0 0 (MQ below (q_X1_waysTo6 D k o r I L w ba BI bn aa AI an x y z bm am xj yj A) ([.ref o, .int x, .int y, .int z] : List Value).toArray s 0 0 A) (F0 m 13 ls [.int v8]) := by
      intro v8 H locs ls ev8 bv8_0 hP hD hS hl
      exact xret_i hx hb hr hlocks (Nat.le_of_ble_eq_true rfl) (Nat.le_of_ble_eq_true rfl) hS.2.2 dX1_waysTo_13 (fun t ht => ⟨⟨v8, v8, rfl, ⟨rfl, (by subst ev8; exact Eq.symm (Eq.trans (if_pos c1) (rfl)))⟩, by rw [ht]; exact hP, hD⟩, hS.F ht⟩)
    refine lv_if_gt (tgt := 12) hx hb dX1_waysTo_5 (by decide) (fun c9 => ?_) (fun c9 => ?_)
    · refine lv_iconst (v := 0) hx hb dX1_waysTo_12 ci_0 ?_
      exact Jn1 0 _ _ _ (by exact Eq.symm (Eq.trans (if_pos c9) (rfl))) (Or.inl rfl) hP hD hS (lv_sub hl [0, 1, 2, 3] rfl)
    · refine lv_iconst (v := 1) hx hb dX1_waysTo_8 ci_1 ?_
      refine lv_goto (tgt := 13) hx hb dX1_waysTo_9 (by decide) ?_
      exact Jn1 1 _ _ _ (by exact Eq.symm (Eq.trans (if_neg c9) (rfl))) (Or.inr rfl) hP hD hS (lv_sub hl [0, 1, 2, 3] rfl)

def f_X1_waysTo7_j1 (z : Int32) : (Int32) :=
  if 0 < z then
    0
  else
    1
def f_X1_waysTo7 (BI : Nat → Int32) (bn : Nat → Int32) (AI : Nat → Int32) (an : Nat → Int32) (x : Int32) (y : Int32) (z : Int32) (bm : Nat) (xj : Nat) : Int32 :=
  if y = 0 then
    let v8 := f_X1_waysTo7_j1 z
    v8
  else
    if y ≤ (((BI 1) + (AI 1)) - x) then
      let u3 := f_X1_numberAt BI bn an x bm xj
      let u4 := f_X1_waysTo6 BI bn AI an (x + 1) (y - 1) (z - u3) bm (xj + 1)
      let u5 := f_X1_waysTo6 BI bn AI an (x + 1) y z bm (xj + 1)
      (u4 + u5)
    else
      0
abbrev q_X1_waysTo7 (D : va_G) (k : KK) (o : Nat) (r : Nat → Nat) (I : Nat → Int32) (L : Nat → Int64) (w : Value) (ba : Nat → Nat) (BI : Nat → Int32) (bn : Nat → Int32) (aa : Nat → Nat) (AI : Nat → Int32) (an : Nat → Int32) (x : Int32) (y : Int32) (z : Int32) (bm : Nat) (am : Nat) (xj : Nat) (yj : Nat) (A : Nat → Prop) : Array Value → State → Outcome → State → Prop := va_Qi (fun (r_ : Int32) (u : Int32) => r_ = u ∧ u = f_X1_waysTo7 BI bn AI an x y z bm xj) (bx D (fun u => [(o, eRM r w I L), ((r 26), eRW ba BI), ((ba 0), aI k 8 bn), ((r 27), eRW aa AI), ((aa 0), aI k 8 an)]) A) A
abbrev rm_X1_waysTo7 : Room := { frames := 10, cells := 0, slots := 0, locals := 400 }
set_option maxHeartbeats 8000000 in
theorem m_X1_waysTo7 (l : Launch) (D : va_G) (k : KK) (sz : Nat) (o : Nat) (r : Nat → Nat) (I : Nat → Int32) (L : Nat → Int64) (w : Value) (ba : Nat → Nat) (BI : Nat → Int32) (bn : Nat → Int32) (aa : Nat → Nat) (AI : Nat → Int32) (an : Nat → Int32) (x : Int32) (y : Int32) (z : Int32) (bm : Nat) (am : Nat) (xj : Nat) (yj : Nat) (hbm : BI 1 = nI bm) (hb8 : bm ≤ 8) (ham : AI 1 = nI am) (ha8 : am ≤ 8) (hxj : x = nI xj) (hyj : y = nI yj) (hy8 : yj ≤ 8) (hxb : xj ≤ bm + am) (hd : bm + am ≤ xj + 7) : Met l yX1_waysTo (ws_ yX1_waysTo cX1_waysTo 4 (some .int)) rm_X1_waysTo7 (pcx D k [.ref o, .int x, .int y, .int z] sz [(o, eRM r w I L), ((r 26), eRW ba BI), ((ba 0), aI k 8 bn), ((r 27), eRW aa AI), ((aa 0), aI k 8 an)] (fun _ => True)) (q_X1_waysTo7 D k o r I L w ba BI bn aa AI an x y z bm am xj yj (va_A [(o, eRM r w I L), ((r 26), eRW ba BI), ((ba 0), aI k 8 bn), ((r 27), eRW aa AI), ((aa 0), aI k 8 an)] sz)) 0 0 (va_A [(o, eRM r w I L), ((r 26), eRW ba BI), ((ba 0), aI k 8 bn), ((r 27), eRW aa AI), ((aa 0), aI k 8 an)] sz) := by
  refine Met.start (Qc := q_X1_waysTo7 D k o r I L w ba BI bn aa AI an x y z bm am xj yj) (by decide) (Nat.le_of_ble_eq_true rfl) ?_
  intro p e s m below meth c A hx hb hr hlocks hml hown hin hts hg hP hD hA hAn hS hY hsz ls hl
  have hown : s.vm.findClass RX1 = some m.cls := hown
  have hl : lv_has ls 4 [(0, .ref o), (1, .int x), (2, .int y), (3, .int z)] := hl
  refine lv_iload_n hx hb dX1_waysTo_0 rfl (lv_at hl 2 rfl) ?_
  refine lv_if_ne (tgt := 14) hx hb dX1_waysTo_1 (by decide) (fun c1 => ?_) (fun c1 => ?_)
  · refine lv_aload_n hx hb dX1_waysTo_14 rfl (lv_at hl 0 rfl) ?_
    refine va_get (D := D) (ci := 0) (v := .ref (r 26)) (C := RX1) (T := TX1) (N := 29) hx hb hts in_X1 hown hg.1 hP 0 rfl rfl 26 (Nat.le_of_ble_eq_true rfl) (hts _ q390) (fun _ h9 => h9) rfl dX1_waysTo_15 ?_
    refine va_get (D := D) (ci := 5) (v := .int (BI 1)) (C := RX6) (T := TX6) (N := 2) hx hb hts in_X6 hown hg.1 hP 1 rfl rfl 1 (Nat.le_of_ble_eq_true rfl) (hts _ q340) (fun _ h9 => h9) rfl dX1_waysTo_18 ?_
    refine lv_aload_n hx hb dX1_waysTo_21 rfl (lv_at hl 0 rfl) ?_
    refine va_get (D := D) (ci := 0) (v := .ref (r 27)) (C := RX1) (T := TX1) (N := 29) hx hb hts in_X1 hown hg.1 hP 0 rfl rfl 27 (Nat.le_of_ble_eq_true rfl) (hts _ q391) (fun _ h9 => h9) rfl dX1_waysTo_22 ?_
    refine va_get (D := D) (ci := 5) (v := .int (AI 1)) (C := RX6) (T := TX6) (N := 2) hx hb hts in_X6 hown hg.1 hP 3 rfl rfl 1 (Nat.le_of_ble_eq_true rfl) (hts _ q340) (fun _ h9 => h9) rfl dX1_waysTo_25 ?_
    refine lv_iadd hx hb dX1_waysTo_28 ?_
    refine lv_iload_n hx hb dX1_waysTo_29 rfl (lv_at hl 1 rfl) ?_
    refine lv_isub hx hb dX1_waysTo_30 ?_
    refine lv_iload_n hx hb dX1_waysTo_31 rfl (lv_at hl 2 rfl) ?_
    refine lv_icmp_ge (tgt := 37) hx hb dX1_waysTo_32 (by decide) (fun c2 => ?_) (fun c2 => ?_)
    · obtain ⟨hy1, hyl⟩ := wt_live hbm hb8 ham ha8 hxj hyj hy8 hxb c1 c2
      refine lv_aload_n hx hb dX1_waysTo_37 rfl (lv_at hl 0 rfl) ?_
      refine lv_iload_n hx hb dX1_waysTo_38 rfl (lv_at hl 1 rfl) ?_
      refine lv_iconst (v := 1) hx hb dX1_waysTo_39 ci_1 ?_
      refine lv_iadd hx hb dX1_waysTo_40 ?_
      refine lv_iload_n hx hb dX1_waysTo_41 rfl (lv_at hl 2 rfl) ?_
      refine lv_iconst (v := 1) hx hb dX1_waysTo_42 ci_1 ?_
      refine lv_isub hx hb dX1_waysTo_43 ?_
      refine lv_iload_n hx hb dX1_waysTo_44 rfl (lv_at hl 3 rfl) ?_
      refine lv_aload_n hx hb dX1_waysTo_45 rfl (lv_at hl 0 rfl) ?_
      refine lv_iload_n hx hb dX1_waysTo_46 rfl (lv_at hl 1 rfl) ?_
      refine xc_i (wc := [(o, eRM r w I L), ((r 26), eRW ba BI), ((ba 0), aI k 8 bn), ((r 27), eRW aa AI), ((aa 0), aI k 8 an)]) (wr := []) hP hD hS hA [0, 1, 2, 3, 4] [] rfl rfl rfl (by decide) (xrV ⟨hx, hb, hml, hown, hts⟩ hg (m_X1_numberAt l D k _ o r I L w ba BI bn aa AI an x bm am xj hbm hb8 ham ha8 hxj (by omega)) hP hD [0, 1, 2, 3, 4] rfl rfl trivial (ci := 0) (q0 := 0) rfl rfl rfl q1073 q1075 qs38 q83 q1076 xo_X1_numberAt ⟨rfl, rfl⟩ ⟨Nat.le_of_ble_eq_true rfl, Nat.le_of_ble_eq_true rfl⟩ hl.1 (Nat.le_of_ble_eq_true rfl) dX1_waysTo_47 ⟨Nat.le_of_ble_eq_true rfl, Nat.le_of_ble_eq_true rfl⟩ rfl) (fun u3 r_ H locs hw hP hD hS hk => ?_)
      obtain ⟨rfl, eu3⟩ := hw
      replace hP : va_P D vwCl [(o, eRM r w I L), ((r 26), eRW ba BI), ((ba 0), aI k 8 bn), ((r 27), eRW aa AI), ((aa 0), aI k 8 an)] H := hP.sub [0, 1, 2, 3, 4] rfl
      replace hD : va_D A [(o, eRM r w I L), ((r 26), eRW ba BI), ((ba 0), aI k 8 bn), ((r 27), eRW aa AI), ((aa 0), aI k 8 an)] := hD.sub [0, 1, 2, 3, 4] (by decide) rfl
      refine lv_isub hx hb dX1_waysTo_50 ?_
      refine xc_i (wc := [(o, eRM r w I L), ((r 26), eRW ba BI), ((ba 0), aI k 8 bn), ((r 27), eRW aa AI), ((aa 0), aI k 8 an)]) (wr := []) hP hD hS hA [0, 1, 2, 3, 4] [] rfl rfl rfl (by decide) (xrV ⟨hx, hb, hml, hown, hts⟩ hg (m_X1_waysTo6 l D k _ o r I L w ba BI bn aa AI an (x + 1) (y - 1) (z - u3) bm am (xj + 1) (yj - 1) hbm hb8 ham ha8 (xnadd hxj (show (1 : Int32) = nI 1 from rfl)) (xnsub hyj (show (1 : Int32) = nI 1 from rfl) (by omega)) (by omega) (by omega) (by omega)) hP hD [0, 1, 2, 3, 4] rfl rfl trivial (ci := 0) (q0 := 0) rfl rfl rfl q1069 q1071 qs37 q83 q1072 xo_X1_waysTo ⟨rfl, rfl⟩ ⟨Nat.le_of_ble_eq_true rfl, Nat.le_of_ble_eq_true rfl⟩ hl.1 (Nat.le_of_ble_eq_true rfl) dX1_waysTo_51 ⟨Nat.le_of_ble_eq_true rfl, Nat.le_of_ble_eq_true rfl⟩ rfl) (fun u4 r_ H locs hw hP hD hS hk => ?_)
      obtain ⟨rfl, eu4⟩ := hw
      replace hP : va_P D vwCl [(o, eRM r w I L), ((r 26), eRW ba BI), ((ba 0), aI k 8 bn), ((r 27), eRW aa AI), ((aa 0), aI k 8 an)] H := hP.sub [0, 1, 2, 3, 4] rfl
      replace hD : va_D A [(o, eRM r w I L), ((r 26), eRW ba BI), ((ba 0), aI k 8 bn), ((r 27), eRW aa AI), ((aa 0), aI k 8 an)] := hD.sub [0, 1, 2, 3, 4] (by decide) rfl
      refine lv_aload_n hx hb dX1_waysTo_54 rfl (lv_at hl 0 rfl) ?_
      refine lv_iload_n hx hb dX1_waysTo_55 rfl (lv_at hl 1 rfl) ?_
      refine lv_iconst (v := 1) hx hb dX1_waysTo_56 ci_1 ?_
      refine lv_iadd hx hb dX1_waysTo_57 ?_
      refine lv_iload_n hx hb dX1_waysTo_58 rfl (lv_at hl 2 rfl) ?_
      refine lv_iload_n hx hb dX1_waysTo_59 rfl (lv_at hl 3 rfl) ?_
      refine xc_i (wc := [(o, eRM r w I L), ((r 26), eRW ba BI), ((ba 0), aI k 8 bn), ((r 27), eRW aa AI), ((aa 0), aI k 8 an)]) (wr := []) hP hD hS hA [0, 1, 2, 3, 4] [] rfl rfl rfl (by decide) (xrV ⟨hx, hb, hml, hown, hts⟩ hg (m_X1_waysTo6 l D k _ o r I L w ba BI bn aa AI an (x + 1) y z bm am (xj + 1) yj hbm hb8 ham ha8 (xnadd hxj (show (1 : Int32) = nI 1 from rfl)) hyj hy8 (by omega) (by omega)) hP hD [0, 1, 2, 3, 4] rfl rfl trivial (ci := 0) (q0 := 0) rfl rfl rfl q1069 q1071 qs37 q83 q1072 xo_X1_waysTo ⟨rfl, rfl⟩ ⟨Nat.le_of_ble_eq_true rfl, Nat.le_of_ble_eq_true rfl⟩ hl.1 (Nat.le_of_ble_eq_true rfl) dX1_waysTo_60 ⟨Nat.le_of_ble_eq_true rfl, Nat.le_of_ble_eq_true rfl⟩ rfl) (fun u5 r_ H locs hw hP hD hS hk => ?_)
      obtain ⟨rfl, eu5⟩ := hw
      replace hP : va_P D vwCl [(o, eRM r w I L), ((r 26), eRW ba BI), ((ba 0), aI k 8 bn), ((r 27), eRW aa AI), ((aa 0), aI k 8 an)] H := hP.sub [0, 1, 2, 3, 4] rfl
      replace hD : va_D A [(o, eRM r w I L), ((r 26), eRW ba BI), ((ba 0), aI k 8 bn), ((r 27), eRW aa AI), ((aa 0), aI k 8 an)] := hD.sub [0, 1, 2, 3, 4] (by decide) rfl
      refine lv_iadd hx hb dX1_waysTo_63 ?_
      exact xret_i hx hb hr hlocks (Nat.le_of_ble_eq_true rfl) (Nat.le_of_ble_eq_true rfl) hS.2.2 dX1_waysTo_64 (fun t ht => ⟨⟨(u4 + u5), (u4 + u5), rfl, ⟨rfl, (by subst eu5; subst eu4; subst eu3; exact Eq.symm (Eq.trans (if_neg c1) (Eq.trans (if_pos c2) (rfl))))⟩, by rw [ht]; exact hP, hD⟩, hS.F ht⟩)
    · refine lv_iconst (v := 0) hx hb dX1_waysTo_35 ci_0 ?_
      exact xret_i hx hb hr hlocks (Nat.le_of_ble_eq_true rfl) (Nat.le_of_ble_eq_true rfl) hS.2.2 dX1_waysTo_36 (fun t ht => ⟨⟨0, 0, rfl, ⟨rfl, (by exact Eq.symm (Eq.trans (if_neg c1) (Eq.trans (if_neg c2) (rfl))))⟩, by rw [ht]; exact hP, hD⟩, hS.F ht⟩)
  · refine lv_iload_n hx hb dX1_waysTo_4 rfl (lv_at hl 3 rfl) ?_
    have Jn1 : ∀ (v8 : (Int32)) (H : Heap) (locs : List Loc) (ls : Array Slot), v8 = f_X1_waysTo7_j1 z → (v8 = 0 ∨ v8 = 1) → va_P D vwCl [(o, eRM r w I L), ((r 26), eRW ba BI), ((ba 0), aI k 8 bn), ((r 27), eRW aa AI), ((aa 0), aI k 8 an)] H → va_D A [(o, eRM r w I L), ((r 26), eRW ba BI), ((ba 0), aI k 8 bn), ((r 27), eRW aa AI), ((aa 0), aI k 8 an)] → va_S A s.heap H locs → lv_has ls 4 [(0, .ref o), (1, .int x), (2, .int y), (3, .int z)] → W p l e rm_X1_waysTo7 s m ([.ref o, .int x, .int y, .int z] : List Value).toArray below meth c H locs 0 0 (MQ below (q_X1_waysTo7 D k o r I L w ba BI bn aa AI an x y z bm am xj yj A) ([.ref o, .int x, .int y, .int z] : List Value).toArray s 0 0 A) (F0 m 13 ls [.int v8]) := by
      intro v8 H locs ls ev8 bv8_0 hP hD hS hl
      exact xret_i hx hb hr hlocks (Nat.le_of_ble_eq_true rfl) (Nat.le_of_ble_eq_true rfl) hS.2.2 dX1_waysTo_13 (fun t ht => ⟨⟨v8, v8, rfl, ⟨rfl, (by subst ev8; exact Eq.symm (Eq.trans (if_pos c1) (rfl)))⟩, by rw [ht]; exact hP, hD⟩, hS.F ht⟩)
    refine lv_if_gt (tgt := 12) hx hb dX1_waysTo_5 (by decide) (fun c9 => ?_) (fun c9 => ?_)
    · refine lv_iconst (v := 0) hx hb dX1_waysTo_12 ci_0 ?_
      exact Jn1 0 _ _ _ (by exact Eq.symm (Eq.trans (if_pos c9) (rfl))) (Or.inl rfl) hP hD hS (lv_sub hl [0, 1, 2, 3] rfl)
    · refine lv_iconst (v := 1) hx hb dX1_waysTo_8 ci_1 ?_
      refine lv_goto (tgt := 13) hx hb dX1_waysTo_9 (by decide) ?_
      exact Jn1 1 _ _ _ (by exact Eq.symm (Eq.trans (if_neg c9) (rfl))) (Or.inr rfl) hP hD hS (lv_sub hl [0, 1, 2, 3] rfl)

def f_X1_waysTo8_j1 (z : Int32) : (Int32) :=
  if 0 < z then
    0
  else
    1
def f_X1_waysTo8 (BI : Nat → Int32) (bn : Nat → Int32) (AI : Nat → Int32) (an : Nat → Int32) (x : Int32) (y : Int32) (z : Int32) (bm : Nat) (xj : Nat) : Int32 :=
  if y = 0 then
    let v8 := f_X1_waysTo8_j1 z
    v8
  else
    if y ≤ (((BI 1) + (AI 1)) - x) then
      let u3 := f_X1_numberAt BI bn an x bm xj
      let u4 := f_X1_waysTo7 BI bn AI an (x + 1) (y - 1) (z - u3) bm (xj + 1)
      let u5 := f_X1_waysTo7 BI bn AI an (x + 1) y z bm (xj + 1)
      (u4 + u5)
    else
      0
abbrev q_X1_waysTo8 (D : va_G) (k : KK) (o : Nat) (r : Nat → Nat) (I : Nat → Int32) (L : Nat → Int64) (w : Value) (ba : Nat → Nat) (BI : Nat → Int32) (bn : Nat → Int32) (aa : Nat → Nat) (AI : Nat → Int32) (an : Nat → Int32) (x : Int32) (y : Int32) (z : Int32) (bm : Nat) (am : Nat) (xj : Nat) (yj : Nat) (A : Nat → Prop) : Array Value → State → Outcome → State → Prop := va_Qi (fun (r_ : Int32) (u : Int32) => r_ = u ∧ u = f_X1_waysTo8 BI bn AI an x y z bm xj) (bx D (fun u => [(o, eRM r w I L), ((r 26), eRW ba BI), ((ba 0), aI k 8 bn), ((r 27), eRW aa AI), ((aa 0), aI k 8 an)]) A) A
abbrev rm_X1_waysTo8 : Room := { frames := 11, cells := 0, slots := 0, locals := 440 }
set_option maxHeartbeats 8000000 in
theorem m_X1_waysTo8 (l : Launch) (D : va_G) (k : KK) (sz : Nat) (o : Nat) (r : Nat → Nat) (I : Nat → Int32) (L : Nat → Int64) (w : Value) (ba : Nat → Nat) (BI : Nat → Int32) (bn : Nat → Int32) (aa : Nat → Nat) (AI : Nat → Int32) (an : Nat → Int32) (x : Int32) (y : Int32) (z : Int32) (bm : Nat) (am : Nat) (xj : Nat) (yj : Nat) (hbm : BI 1 = nI bm) (hb8 : bm ≤ 8) (ham : AI 1 = nI am) (ha8 : am ≤ 8) (hxj : x = nI xj) (hyj : y = nI yj) (hy8 : yj ≤ 8) (hxb : xj ≤ bm + am) (hd : bm + am ≤ xj + 8) : Met l yX1_waysTo (ws_ yX1_waysTo cX1_waysTo 4 (some .int)) rm_X1_waysTo8 (pcx D k [.ref o, .int x, .int y, .int z] sz [(o, eRM r w I L), ((r 26), eRW ba BI), ((ba 0), aI k 8 bn), ((r 27), eRW aa AI), ((aa 0), aI k 8 an)] (fun _ => True)) (q_X1_waysTo8 D k o r I L w ba BI bn aa AI an x y z bm am xj yj (va_A [(o, eRM r w I L), ((r 26), eRW ba BI), ((ba 0), aI k 8 bn), ((r 27), eRW aa AI), ((aa 0), aI k 8 an)] sz)) 0 0 (va_A [(o, eRM r w I L), ((r 26), eRW ba BI), ((ba 0), aI k 8 bn), ((r 27), eRW aa AI), ((aa 0), aI k 8 an)] sz) := by
  refine Met.start (Qc := q_X1_waysTo8 D k o r I L w ba BI bn aa AI an x y z bm am xj yj) (by decide) (Nat.le_of_ble_eq_true rfl) ?_
  intro p e s m below meth c A hx hb hr hlocks hml hown hin hts hg hP hD hA hAn hS hY hsz ls hl
  have hown : s.vm.findClass RX1 = some m.cls := hown
  have hl : lv_has ls 4 [(0, .ref o), (1, .int x), (2, .int y), (3, .int z)] := hl
  refine lv_iload_n hx hb dX1_waysTo_0 rfl (lv_at hl 2 rfl) ?_
  refine lv_if_ne (tgt := 14) hx hb dX1_waysTo_1 (by decide) (fun c1 => ?_) (fun c1 => ?_)
  · refine lv_aload_n hx hb dX1_waysTo_14 rfl (lv_at hl 0 rfl) ?_
    refine va_get (D := D) (ci := 0) (v := .ref (r 26)) (C := RX1) (T := TX1) (N := 29) hx hb hts in_X1 hown hg.1 hP 0 rfl rfl 26 (Nat.le_of_ble_eq_true rfl) (hts _ q390) (fun _ h9 => h9) rfl dX1_waysTo_15 ?_
    refine va_get (D := D) (ci := 5) (v := .int (BI 1)) (C := RX6) (T := TX6) (N := 2) hx hb hts in_X6 hown hg.1 hP 1 rfl rfl 1 (Nat.le_of_ble_eq_true rfl) (hts _ q340) (fun _ h9 => h9) rfl dX1_waysTo_18 ?_
    refine lv_aload_n hx hb dX1_waysTo_21 rfl (lv_at hl 0 rfl) ?_
    refine va_get (D := D) (ci := 0) (v := .ref (r 27)) (C := RX1) (T := TX1) (N := 29) hx hb hts in_X1 hown hg.1 hP 0 rfl rfl 27 (Nat.le_of_ble_eq_true rfl) (hts _ q391) (fun _ h9 => h9) rfl dX1_waysTo_22 ?_
    refine va_get (D := D) (ci := 5) (v := .int (AI 1)) (C := RX6) (T := TX6) (N := 2) hx hb hts in_X6 hown hg.1 hP 3 rfl rfl 1 (Nat.le_of_ble_eq_true rfl) (hts _ q340) (fun _ h9 => h9) rfl dX1_waysTo_25 ?_
    refine lv_iadd hx hb dX1_waysTo_28 ?_
    refine lv_iload_n hx hb dX1_waysTo_29 rfl (lv_at hl 1 rfl) ?_
    refine lv_isub hx hb dX1_waysTo_30 ?_
    refine lv_iload_n hx hb dX1_waysTo_31 rfl (lv_at hl 2 rfl) ?_
    refine lv_icmp_ge (tgt := 37) hx hb dX1_waysTo_32 (by decide) (fun c2 => ?_) (fun c2 => ?_)
    · obtain ⟨hy1, hyl⟩ := wt_live hbm hb8 ham ha8 hxj hyj hy8 hxb c1 c2
      refine lv_aload_n hx hb dX1_waysTo_37 rfl (lv_at hl 0 rfl) ?_
      refine lv_iload_n hx hb dX1_waysTo_38 rfl (lv_at hl 1 rfl) ?_
      refine lv_iconst (v := 1) hx hb dX1_waysTo_39 ci_1 ?_
      refine lv_iadd hx hb dX1_waysTo_40 ?_
      refine lv_iload_n hx hb dX1_waysTo_41 rfl (lv_at hl 2 rfl) ?_
      refine lv_iconst (v := 1) hx hb dX1_waysTo_42 ci_1 ?_
      refine lv_isub hx hb dX1_waysTo_43 ?_
      refine lv_iload_n hx hb dX1_waysTo_44 rfl (lv_at hl 3 rfl) ?_
      refine lv_aload_n hx hb dX1_waysTo_45 rfl (lv_at hl 0 rfl) ?_
      refine lv_iload_n hx hb dX1_waysTo_46 rfl (lv_at hl 1 rfl) ?_
      refine xc_i (wc := [(o, eRM r w I L), ((r 26), eRW ba BI), ((ba 0), aI k 8 bn), ((r 27), eRW aa AI), ((aa 0), aI k 8 an)]) (wr := []) hP hD hS hA [0, 1, 2, 3, 4] [] rfl rfl rfl (by decide) (xrV ⟨hx, hb, hml, hown, hts⟩ hg (m_X1_numberAt l D k _ o r I L w ba BI bn aa AI an x bm am xj hbm hb8 ham ha8 hxj (by omega)) hP hD [0, 1, 2, 3, 4] rfl rfl trivial (ci := 0) (q0 := 0) rfl rfl rfl q1073 q1075 qs38 q83 q1076 xo_X1_numberAt ⟨rfl, rfl⟩ ⟨Nat.le_of_ble_eq_true rfl, Nat.le_of_ble_eq_true rfl⟩ hl.1 (Nat.le_of_ble_eq_true rfl) dX1_waysTo_47 ⟨Nat.le_of_ble_eq_true rfl, Nat.le_of_ble_eq_true rfl⟩ rfl) (fun u3 r_ H locs hw hP hD hS hk => ?_)
      obtain ⟨rfl, eu3⟩ := hw
      replace hP : va_P D vwCl [(o, eRM r w I L), ((r 26), eRW ba BI), ((ba 0), aI k 8 bn), ((r 27), eRW aa AI), ((aa 0), aI k 8 an)] H := hP.sub [0, 1, 2, 3, 4] rfl
      replace hD : va_D A [(o, eRM r w I L), ((r 26), eRW ba BI), ((ba 0), aI k 8 bn), ((r 27), eRW aa AI), ((aa 0), aI k 8 an)] := hD.sub [0, 1, 2, 3, 4] (by decide) rfl
      refine lv_isub hx hb dX1_waysTo_50 ?_
      refine xc_i (wc := [(o, eRM r w I L), ((r 26), eRW ba BI), ((ba 0), aI k 8 bn), ((r 27), eRW aa AI), ((aa 0), aI k 8 an)]) (wr := []) hP hD hS hA [0, 1, 2, 3, 4] [] rfl rfl rfl (by decide) (xrV ⟨hx, hb, hml, hown, hts⟩ hg (m_X1_waysTo7 l D k _ o r I L w ba BI bn aa AI an (x + 1) (y - 1) (z - u3) bm am (xj + 1) (yj - 1) hbm hb8 ham ha8 (xnadd hxj (show (1 : Int32) = nI 1 from rfl)) (xnsub hyj (show (1 : Int32) = nI 1 from rfl) (by omega)) (by omega) (by omega) (by omega)) hP hD [0, 1, 2, 3, 4] rfl rfl trivial (ci := 0) (q0 := 0) rfl rfl rfl q1069 q1071 qs37 q83 q1072 xo_X1_waysTo ⟨rfl, rfl⟩ ⟨Nat.le_of_ble_eq_true rfl, Nat.le_of_ble_eq_true rfl⟩ hl.1 (Nat.le_of_ble_eq_true rfl) dX1_waysTo_51 ⟨Nat.le_of_ble_eq_true rfl, Nat.le_of_ble_eq_true rfl⟩ rfl) (fun u4 r_ H locs hw hP hD hS hk => ?_)
      obtain ⟨rfl, eu4⟩ := hw
      replace hP : va_P D vwCl [(o, eRM r w I L), ((r 26), eRW ba BI), ((ba 0), aI k 8 bn), ((r 27), eRW aa AI), ((aa 0), aI k 8 an)] H := hP.sub [0, 1, 2, 3, 4] rfl
      replace hD : va_D A [(o, eRM r w I L), ((r 26), eRW ba BI), ((ba 0), aI k 8 bn), ((r 27), eRW aa AI), ((aa 0), aI k 8 an)] := hD.sub [0, 1, 2, 3, 4] (by decide) rfl
      refine lv_aload_n hx hb dX1_waysTo_54 rfl (lv_at hl 0 rfl) ?_
      refine lv_iload_n hx hb dX1_waysTo_55 rfl (lv_at hl 1 rfl) ?_
      refine lv_iconst (v := 1) hx hb dX1_waysTo_56 ci_1 ?_
      refine lv_iadd hx hb dX1_waysTo_57 ?_
      refine lv_iload_n hx hb dX1_waysTo_58 rfl (lv_at hl 2 rfl) ?_
      refine lv_iload_n hx hb dX1_waysTo_59 rfl (lv_at hl 3 rfl) ?_
      refine xc_i (wc := [(o, eRM r w I L), ((r 26), eRW ba BI), ((ba 0), aI k 8 bn), ((r 27), eRW aa AI), ((aa 0), aI k 8 an)]) (wr := []) hP hD hS hA [0, 1, 2, 3, 4] [] rfl rfl rfl (by decide) (xrV ⟨hx, hb, hml, hown, hts⟩ hg (m_X1_waysTo7 l D k _ o r I L w ba BI bn aa AI an (x + 1) y z bm am (xj + 1) yj hbm hb8 ham ha8 (xnadd hxj (show (1 : Int32) = nI 1 from rfl)) hyj hy8 (by omega) (by omega)) hP hD [0, 1, 2, 3, 4] rfl rfl trivial (ci := 0) (q0 := 0) rfl rfl rfl q1069 q1071 qs37 q83 q1072 xo_X1_waysTo ⟨rfl, rfl⟩ ⟨Nat.le_of_ble_eq_true rfl, Nat.le_of_ble_eq_true rfl⟩ hl.1 (Nat.le_of_ble_eq_true rfl) dX1_waysTo_60 ⟨Nat.le_of_ble_eq_true rfl, Nat.le_of_ble_eq_true rfl⟩ rfl) (fun u5 r_ H locs hw hP hD hS hk => ?_)
      obtain ⟨rfl, eu5⟩ := hw
      replace hP : va_P D vwCl [(o, eRM r w I L), ((r 26), eRW ba BI), ((ba 0), aI k 8 bn), ((r 27), eRW aa AI), ((aa 0), aI k 8 an)] H := hP.sub [0, 1, 2, 3, 4] rfl
      replace hD : va_D A [(o, eRM r w I L), ((r 26), eRW ba BI), ((ba 0), aI k 8 bn), ((r 27), eRW aa AI), ((aa 0), aI k 8 an)] := hD.sub [0, 1, 2, 3, 4] (by decide) rfl
      refine lv_iadd hx hb dX1_waysTo_63 ?_
      exact xret_i hx hb hr hlocks (Nat.le_of_ble_eq_true rfl) (Nat.le_of_ble_eq_true rfl) hS.2.2 dX1_waysTo_64 (fun t ht => ⟨⟨(u4 + u5), (u4 + u5), rfl, ⟨rfl, (by subst eu5; subst eu4; subst eu3; exact Eq.symm (Eq.trans (if_neg c1) (Eq.trans (if_pos c2) (rfl))))⟩, by rw [ht]; exact hP, hD⟩, hS.F ht⟩)
    · refine lv_iconst (v := 0) hx hb dX1_waysTo_35 ci_0 ?_
      exact xret_i hx hb hr hlocks (Nat.le_of_ble_eq_true rfl) (Nat.le_of_ble_eq_true rfl) hS.2.2 dX1_waysTo_36 (fun t ht => ⟨⟨0, 0, rfl, ⟨rfl, (by exact Eq.symm (Eq.trans (if_neg c1) (Eq.trans (if_neg c2) (rfl))))⟩, by rw [ht]; exact hP, hD⟩, hS.F ht⟩)
  · refine lv_iload_n hx hb dX1_waysTo_4 rfl (lv_at hl 3 rfl) ?_
    have Jn1 : ∀ (v8 : (Int32)) (H : Heap) (locs : List Loc) (ls : Array Slot), v8 = f_X1_waysTo8_j1 z → (v8 = 0 ∨ v8 = 1) → va_P D vwCl [(o, eRM r w I L), ((r 26), eRW ba BI), ((ba 0), aI k 8 bn), ((r 27), eRW aa AI), ((aa 0), aI k 8 an)] H → va_D A [(o, eRM r w I L), ((r 26), eRW ba BI), ((ba 0), aI k 8 bn), ((r 27), eRW aa AI), ((aa 0), aI k 8 an)] → va_S A s.heap H locs → lv_has ls 4 [(0, .ref o), (1, .int x), (2, .int y), (3, .int z)] → W p l e rm_X1_waysTo8 s m ([.ref o, .int x, .int y, .int z] : List Value).toArray below meth c H locs 0 0 (MQ below (q_X1_waysTo8 D k o r I L w ba BI bn aa AI an x y z bm am xj yj A) ([.ref o, .int x, .int y, .int z] : List Value).toArray s 0 0 A) (F0 m 13 ls [.int v8]) := by
      intro v8 H locs ls ev8 bv8_0 hP hD hS hl
      exact xret_i hx hb hr hlocks (Nat.le_of_ble_eq_true rfl) (Nat.le_of_ble_eq_true rfl) hS.2.2 dX1_waysTo_13 (fun t ht => ⟨⟨v8, v8, rfl, ⟨rfl, (by subst ev8; exact Eq.symm (Eq.trans (if_pos c1) (rfl)))⟩, by rw [ht]; exact hP, hD⟩, hS.F ht⟩)
    refine lv_if_gt (tgt := 12) hx hb dX1_waysTo_5 (by decide) (fun c9 => ?_) (fun c9 => ?_)
    · refine lv_iconst (v := 0) hx hb dX1_waysTo_12 ci_0 ?_
      exact Jn1 0 _ _ _ (by exact Eq.symm (Eq.trans (if_pos c9) (rfl))) (Or.inl rfl) hP hD hS (lv_sub hl [0, 1, 2, 3] rfl)
    · refine lv_iconst (v := 1) hx hb dX1_waysTo_8 ci_1 ?_
      refine lv_goto (tgt := 13) hx hb dX1_waysTo_9 (by decide) ?_
      exact Jn1 1 _ _ _ (by exact Eq.symm (Eq.trans (if_neg c9) (rfl))) (Or.inr rfl) hP hD hS (lv_sub hl [0, 1, 2, 3] rfl)

def f_X1_waysTo9_j1 (z : Int32) : (Int32) :=
  if 0 < z then
    0
  else
    1
def f_X1_waysTo9 (BI : Nat → Int32) (bn : Nat → Int32) (AI : Nat → Int32) (an : Nat → Int32) (x : Int32) (y : Int32) (z : Int32) (bm : Nat) (xj : Nat) : Int32 :=
  if y = 0 then
    let v8 := f_X1_waysTo9_j1 z
    v8
  else
    if y ≤ (((BI 1) + (AI 1)) - x) then
      let u3 := f_X1_numberAt BI bn an x bm xj
      let u4 := f_X1_waysTo8 BI bn AI an (x + 1) (y - 1) (z - u3) bm (xj + 1)
      let u5 := f_X1_waysTo8 BI bn AI an (x + 1) y z bm (xj + 1)
      (u4 + u5)
    else
      0
abbrev q_X1_waysTo9 (D : va_G) (k : KK) (o : Nat) (r : Nat → Nat) (I : Nat → Int32) (L : Nat → Int64) (w : Value) (ba : Nat → Nat) (BI : Nat → Int32) (bn : Nat → Int32) (aa : Nat → Nat) (AI : Nat → Int32) (an : Nat → Int32) (x : Int32) (y : Int32) (z : Int32) (bm : Nat) (am : Nat) (xj : Nat) (yj : Nat) (A : Nat → Prop) : Array Value → State → Outcome → State → Prop := va_Qi (fun (r_ : Int32) (u : Int32) => r_ = u ∧ u = f_X1_waysTo9 BI bn AI an x y z bm xj) (bx D (fun u => [(o, eRM r w I L), ((r 26), eRW ba BI), ((ba 0), aI k 8 bn), ((r 27), eRW aa AI), ((aa 0), aI k 8 an)]) A) A
abbrev rm_X1_waysTo9 : Room := { frames := 12, cells := 0, slots := 0, locals := 480 }
set_option maxHeartbeats 8000000 in
theorem m_X1_waysTo9 (l : Launch) (D : va_G) (k : KK) (sz : Nat) (o : Nat) (r : Nat → Nat) (I : Nat → Int32) (L : Nat → Int64) (w : Value) (ba : Nat → Nat) (BI : Nat → Int32) (bn : Nat → Int32) (aa : Nat → Nat) (AI : Nat → Int32) (an : Nat → Int32) (x : Int32) (y : Int32) (z : Int32) (bm : Nat) (am : Nat) (xj : Nat) (yj : Nat) (hbm : BI 1 = nI bm) (hb8 : bm ≤ 8) (ham : AI 1 = nI am) (ha8 : am ≤ 8) (hxj : x = nI xj) (hyj : y = nI yj) (hy8 : yj ≤ 8) (hxb : xj ≤ bm + am) (hd : bm + am ≤ xj + 9) : Met l yX1_waysTo (ws_ yX1_waysTo cX1_waysTo 4 (some .int)) rm_X1_waysTo9 (pcx D k [.ref o, .int x, .int y, .int z] sz [(o, eRM r w I L), ((r 26), eRW ba BI), ((ba 0), aI k 8 bn), ((r 27), eRW aa AI), ((aa 0), aI k 8 an)] (fun _ => True)) (q_X1_waysTo9 D k o r I L w ba BI bn aa AI an x y z bm am xj yj (va_A [(o, eRM r w I L), ((r 26), eRW ba BI), ((ba 0), aI k 8 bn), ((r 27), eRW aa AI), ((aa 0), aI k 8 an)] sz)) 0 0 (va_A [(o, eRM r w I L), ((r 26), eRW ba BI), ((ba 0), aI k 8 bn), ((r 27), eRW aa AI), ((aa 0), aI k 8 an)] sz) := by
  refine Met.start (Qc := q_X1_waysTo9 D k o r I L w ba BI bn aa AI an x y z bm am xj yj) (by decide) (Nat.le_of_ble_eq_true rfl) ?_
  intro p e s m below meth c A hx hb hr hlocks hml hown hin hts hg hP hD hA hAn hS hY hsz ls hl
  have hown : s.vm.findClass RX1 = some m.cls := hown
  have hl : lv_has ls 4 [(0, .ref o), (1, .int x), (2, .int y), (3, .int z)] := hl
  refine lv_iload_n hx hb dX1_waysTo_0 rfl (lv_at hl 2 rfl) ?_
  refine lv_if_ne (tgt := 14) hx hb dX1_waysTo_1 (by decide) (fun c1 => ?_) (fun c1 => ?_)
  · refine lv_aload_n hx hb dX1_waysTo_14 rfl (lv_at hl 0 rfl) ?_
    refine va_get (D := D) (ci := 0) (v := .ref (r 26)) (C := RX1) (T := TX1) (N := 29) hx hb hts in_X1 hown hg.1 hP 0 rfl rfl 26 (Nat.le_of_ble_eq_true rfl) (hts _ q390) (fun _ h9 => h9) rfl dX1_waysTo_15 ?_
    refine va_get (D := D) (ci := 5) (v := .int (BI 1)) (C := RX6) (T := TX6) (N := 2) hx hb hts in_X6 hown hg.1 hP 1 rfl rfl 1 (Nat.le_of_ble_eq_true rfl) (hts _ q340) (fun _ h9 => h9) rfl dX1_waysTo_18 ?_
    refine lv_aload_n hx hb dX1_waysTo_21 rfl (lv_at hl 0 rfl) ?_
    refine va_get (D := D) (ci := 0) (v := .ref (r 27)) (C := RX1) (T := TX1) (N := 29) hx hb hts in_X1 hown hg.1 hP 0 rfl rfl 27 (Nat.le_of_ble_eq_true rfl) (hts _ q391) (fun _ h9 => h9) rfl dX1_waysTo_22 ?_
    refine va_get (D := D) (ci := 5) (v := .int (AI 1)) (C := RX6) (T := TX6) (N := 2) hx hb hts in_X6 hown hg.1 hP 3 rfl rfl 1 (Nat.le_of_ble_eq_true rfl) (hts _ q340) (fun _ h9 => h9) rfl dX1_waysTo_25 ?_
    refine lv_iadd hx hb dX1_waysTo_28 ?_
    refine lv_iload_n hx hb dX1_waysTo_29 rfl (lv_at hl 1 rfl) ?_
    refine lv_isub hx hb dX1_waysTo_30 ?_
    refine lv_iload_n hx hb dX1_waysTo_31 rfl (lv_at hl 2 rfl) ?_
    refine lv_icmp_ge (tgt := 37) hx hb dX1_waysTo_32 (by decide) (fun c2 => ?_) (fun c2 => ?_)
    · obtain ⟨hy1, hyl⟩ := wt_live hbm hb8 ham ha8 hxj hyj hy8 hxb c1 c2
      refine lv_aload_n hx hb dX1_waysTo_37 rfl (lv_at hl 0 rfl) ?_
      refine lv_iload_n hx hb dX1_waysTo_38 rfl (lv_at hl 1 rfl) ?_
      refine lv_iconst (v := 1) hx hb dX1_waysTo_39 ci_1 ?_
      refine lv_iadd hx hb dX1_waysTo_40 ?_
      refine lv_iload_n hx hb dX1_waysTo_41 rfl (lv_at hl 2 rfl) ?_
      refine lv_iconst (v := 1) hx hb dX1_waysTo_42 ci_1 ?_
      refine lv_isub hx hb dX1_waysTo_43 ?_
      refine lv_iload_n hx hb dX1_waysTo_44 rfl (lv_at hl 3 rfl) ?_
      refine lv_aload_n hx hb dX1_waysTo_45 rfl (lv_at hl 0 rfl) ?_
      refine lv_iload_n hx hb dX1_waysTo_46 rfl (lv_at hl 1 rfl) ?_
      refine xc_i (wc := [(o, eRM r w I L), ((r 26), eRW ba BI), ((ba 0), aI k 8 bn), ((r 27), eRW aa AI), ((aa 0), aI k 8 an)]) (wr := []) hP hD hS hA [0, 1, 2, 3, 4] [] rfl rfl rfl (by decide) (xrV ⟨hx, hb, hml, hown, hts⟩ hg (m_X1_numberAt l D k _ o r I L w ba BI bn aa AI an x bm am xj hbm hb8 ham ha8 hxj (by omega)) hP hD [0, 1, 2, 3, 4] rfl rfl trivial (ci := 0) (q0 := 0) rfl rfl rfl q1073 q1075 qs38 q83 q1076 xo_X1_numberAt ⟨rfl, rfl⟩ ⟨Nat.le_of_ble_eq_true rfl, Nat.le_of_ble_eq_true rfl⟩ hl.1 (Nat.le_of_ble_eq_true rfl) dX1_waysTo_47 ⟨Nat.le_of_ble_eq_true rfl, Nat.le_of_ble_eq_true rfl⟩ rfl) (fun u3 r_ H locs hw hP hD hS hk => ?_)
      obtain ⟨rfl, eu3⟩ := hw
      replace hP : va_P D vwCl [(o, eRM r w I L), ((r 26), eRW ba BI), ((ba 0), aI k 8 bn), ((r 27), eRW aa AI), ((aa 0), aI k 8 an)] H := hP.sub [0, 1, 2, 3, 4] rfl
      replace hD : va_D A [(o, eRM r w I L), ((r 26), eRW ba BI), ((ba 0), aI k 8 bn), ((r 27), eRW aa AI), ((aa 0), aI k 8 an)] := hD.sub [0, 1, 2, 3, 4] (by decide) rfl
      refine lv_isub hx hb dX1_waysTo_50 ?_
      refine xc_i (wc := [(o, eRM r w I L), ((r 26), eRW ba BI), ((ba 0), aI k 8 bn), ((r 27), eRW aa AI), ((aa 0), aI k 8 an)]) (wr := []) hP hD hS hA [0, 1, 2, 3, 4] [] rfl rfl rfl (by decide) (xrV ⟨hx, hb, hml, hown, hts⟩ hg (m_X1_waysTo8 l D k _ o r I L w ba BI bn aa AI an (x + 1) (y - 1) (z - u3) bm am (xj + 1) (yj - 1) hbm hb8 ham ha8 (xnadd hxj (show (1 : Int32) = nI 1 from rfl)) (xnsub hyj (show (1 : Int32) = nI 1 from rfl) (by omega)) (by omega) (by omega) (by omega)) hP hD [0, 1, 2, 3, 4] rfl rfl trivial (ci := 0) (q0 := 0) rfl rfl rfl q1069 q1071 qs37 q83 q1072 xo_X1_waysTo ⟨rfl, rfl⟩ ⟨Nat.le_of_ble_eq_true rfl, Nat.le_of_ble_eq_true rfl⟩ hl.1 (Nat.le_of_ble_eq_true rfl) dX1_waysTo_51 ⟨Nat.le_of_ble_eq_true rfl, Nat.le_of_ble_eq_true rfl⟩ rfl) (fun u4 r_ H locs hw hP hD hS hk => ?_)
      obtain ⟨rfl, eu4⟩ := hw
      replace hP : va_P D vwCl [(o, eRM r w I L), ((r 26), eRW ba BI), ((ba 0), aI k 8 bn), ((r 27), eRW aa AI), ((aa 0), aI k 8 an)] H := hP.sub [0, 1, 2, 3, 4] rfl
      replace hD : va_D A [(o, eRM r w I L), ((r 26), eRW ba BI), ((ba 0), aI k 8 bn), ((r 27), eRW aa AI), ((aa 0), aI k 8 an)] := hD.sub [0, 1, 2, 3, 4] (by decide) rfl
      refine lv_aload_n hx hb dX1_waysTo_54 rfl (lv_at hl 0 rfl) ?_
      refine lv_iload_n hx hb dX1_waysTo_55 rfl (lv_at hl 1 rfl) ?_
      refine lv_iconst (v := 1) hx hb dX1_waysTo_56 ci_1 ?_
      refine lv_iadd hx hb dX1_waysTo_57 ?_
      refine lv_iload_n hx hb dX1_waysTo_58 rfl (lv_at hl 2 rfl) ?_
      refine lv_iload_n hx hb dX1_waysTo_59 rfl (lv_at hl 3 rfl) ?_
      refine xc_i (wc := [(o, eRM r w I L), ((r 26), eRW ba BI), ((ba 0), aI k 8 bn), ((r 27), eRW aa AI), ((aa 0), aI k 8 an)]) (wr := []) hP hD hS hA [0, 1, 2, 3, 4] [] rfl rfl rfl (by decide) (xrV ⟨hx, hb, hml, hown, hts⟩ hg (m_X1_waysTo8 l D k _ o r I L w ba BI bn aa AI an (x + 1) y z bm am (xj + 1) yj hbm hb8 ham ha8 (xnadd hxj (show (1 : Int32) = nI 1 from rfl)) hyj hy8 (by omega) (by omega)) hP hD [0, 1, 2, 3, 4] rfl rfl trivial (ci := 0) (q0 := 0) rfl rfl rfl q1069 q1071 qs37 q83 q1072 xo_X1_waysTo ⟨rfl, rfl⟩ ⟨Nat.le_of_ble_eq_true rfl, Nat.le_of_ble_eq_true rfl⟩ hl.1 (Nat.le_of_ble_eq_true rfl) dX1_waysTo_60 ⟨Nat.le_of_ble_eq_true rfl, Nat.le_of_ble_eq_true rfl⟩ rfl) (fun u5 r_ H locs hw hP hD hS hk => ?_)
      obtain ⟨rfl, eu5⟩ := hw
      replace hP : va_P D vwCl [(o, eRM r w I L), ((r 26), eRW ba BI), ((ba 0), aI k 8 bn), ((r 27), eRW aa AI), ((aa 0), aI k 8 an)] H := hP.sub [0, 1, 2, 3, 4] rfl
      replace hD : va_D A [(o, eRM r w I L), ((r 26), eRW ba BI), ((ba 0), aI k 8 bn), ((r 27), eRW aa AI), ((aa 0), aI k 8 an)] := hD.sub [0, 1, 2, 3, 4] (by decide) rfl
      refine lv_iadd hx hb dX1_waysTo_63 ?_
      exact xret_i hx hb hr hlocks (Nat.le_of_ble_eq_true rfl) (Nat.le_of_ble_eq_true rfl) hS.2.2 dX1_waysTo_64 (fun t ht => ⟨⟨(u4 + u5), (u4 + u5), rfl, ⟨rfl, (by subst eu5; subst eu4; subst eu3; exact Eq.symm (Eq.trans (if_neg c1) (Eq.trans (if_pos c2) (rfl))))⟩, by rw [ht]; exact hP, hD⟩, hS.F ht⟩)
    · refine lv_iconst (v := 0) hx hb dX1_waysTo_35 ci_0 ?_
      exact xret_i hx hb hr hlocks (Nat.le_of_ble_eq_true rfl) (Nat.le_of_ble_eq_true rfl) hS.2.2 dX1_waysTo_36 (fun t ht => ⟨⟨0, 0, rfl, ⟨rfl, (by exact Eq.symm (Eq.trans (if_neg c1) (Eq.trans (if_neg c2) (rfl))))⟩, by rw [ht]; exact hP, hD⟩, hS.F ht⟩)
  · refine lv_iload_n hx hb dX1_waysTo_4 rfl (lv_at hl 3 rfl) ?_
    have Jn1 : ∀ (v8 : (Int32)) (H : Heap) (locs : List Loc) (ls : Array Slot), v8 = f_X1_waysTo9_j1 z → (v8 = 0 ∨ v8 = 1) → va_P D vwCl [(o, eRM r w I L), ((r 26), eRW ba BI), ((ba 0), aI k 8 bn), ((r 27), eRW aa AI), ((aa 0), aI k 8 an)] H → va_D A [(o, eRM r w I L), ((r 26), eRW ba BI), ((ba 0), aI k 8 bn), ((r 27), eRW aa AI), ((aa 0), aI k 8 an)] → va_S A s.heap H locs → lv_has ls 4 [(0, .ref o), (1, .int x), (2, .int y), (3, .int z)] → W p l e rm_X1_waysTo9 s m ([.ref o, .int x, .int y, .int z] : List Value).toArray below meth c H locs 0 0 (MQ below (q_X1_waysTo9 D k o r I L w ba BI bn aa AI an x y z bm am xj yj A) ([.ref o, .int x, .int y, .int z] : List Value).toArray s 0 0 A) (F0 m 13 ls [.int v8]) := by
      intro v8 H locs ls ev8 bv8_0 hP hD hS hl
      exact xret_i hx hb hr hlocks (Nat.le_of_ble_eq_true rfl) (Nat.le_of_ble_eq_true rfl) hS.2.2 dX1_waysTo_13 (fun t ht => ⟨⟨v8, v8, rfl, ⟨rfl, (by subst ev8; exact Eq.symm (Eq.trans (if_pos c1) (rfl)))⟩, by rw [ht]; exact hP, hD⟩, hS.F ht⟩)
    refine lv_if_gt (tgt := 12) hx hb dX1_waysTo_5 (by decide) (fun c9 => ?_) (fun c9 => ?_)
    · refine lv_iconst (v := 0) hx hb dX1_waysTo_12 ci_0 ?_
      exact Jn1 0 _ _ _ (by exact Eq.symm (Eq.trans (if_pos c9) (rfl))) (Or.inl rfl) hP hD hS (lv_sub hl [0, 1, 2, 3] rfl)
    · refine lv_iconst (v := 1) hx hb dX1_waysTo_8 ci_1 ?_
      refine lv_goto (tgt := 13) hx hb dX1_waysTo_9 (by decide) ?_
      exact Jn1 1 _ _ _ (by exact Eq.symm (Eq.trans (if_neg c9) (rfl))) (Or.inr rfl) hP hD hS (lv_sub hl [0, 1, 2, 3] rfl)

def f_X1_waysTo10_j1 (z : Int32) : (Int32) :=
  if 0 < z then
    0
  else
    1
def f_X1_waysTo10 (BI : Nat → Int32) (bn : Nat → Int32) (AI : Nat → Int32) (an : Nat → Int32) (x : Int32) (y : Int32) (z : Int32) (bm : Nat) (xj : Nat) : Int32 :=
  if y = 0 then
    let v8 := f_X1_waysTo10_j1 z
    v8
  else
    if y ≤ (((BI 1) + (AI 1)) - x) then
      let u3 := f_X1_numberAt BI bn an x bm xj
      let u4 := f_X1_waysTo9 BI bn AI an (x + 1) (y - 1) (z - u3) bm (xj + 1)
      let u5 := f_X1_waysTo9 BI bn AI an (x + 1) y z bm (xj + 1)
      (u4 + u5)
    else
      0
abbrev q_X1_waysTo10 (D : va_G) (k : KK) (o : Nat) (r : Nat → Nat) (I : Nat → Int32) (L : Nat → Int64) (w : Value) (ba : Nat → Nat) (BI : Nat → Int32) (bn : Nat → Int32) (aa : Nat → Nat) (AI : Nat → Int32) (an : Nat → Int32) (x : Int32) (y : Int32) (z : Int32) (bm : Nat) (am : Nat) (xj : Nat) (yj : Nat) (A : Nat → Prop) : Array Value → State → Outcome → State → Prop := va_Qi (fun (r_ : Int32) (u : Int32) => r_ = u ∧ u = f_X1_waysTo10 BI bn AI an x y z bm xj) (bx D (fun u => [(o, eRM r w I L), ((r 26), eRW ba BI), ((ba 0), aI k 8 bn), ((r 27), eRW aa AI), ((aa 0), aI k 8 an)]) A) A
abbrev rm_X1_waysTo10 : Room := { frames := 13, cells := 0, slots := 0, locals := 520 }
set_option maxHeartbeats 8000000 in
theorem m_X1_waysTo10 (l : Launch) (D : va_G) (k : KK) (sz : Nat) (o : Nat) (r : Nat → Nat) (I : Nat → Int32) (L : Nat → Int64) (w : Value) (ba : Nat → Nat) (BI : Nat → Int32) (bn : Nat → Int32) (aa : Nat → Nat) (AI : Nat → Int32) (an : Nat → Int32) (x : Int32) (y : Int32) (z : Int32) (bm : Nat) (am : Nat) (xj : Nat) (yj : Nat) (hbm : BI 1 = nI bm) (hb8 : bm ≤ 8) (ham : AI 1 = nI am) (ha8 : am ≤ 8) (hxj : x = nI xj) (hyj : y = nI yj) (hy8 : yj ≤ 8) (hxb : xj ≤ bm + am) (hd : bm + am ≤ xj + 10) : Met l yX1_waysTo (ws_ yX1_waysTo cX1_waysTo 4 (some .int)) rm_X1_waysTo10 (pcx D k [.ref o, .int x, .int y, .int z] sz [(o, eRM r w I L), ((r 26), eRW ba BI), ((ba 0), aI k 8 bn), ((r 27), eRW aa AI), ((aa 0), aI k 8 an)] (fun _ => True)) (q_X1_waysTo10 D k o r I L w ba BI bn aa AI an x y z bm am xj yj (va_A [(o, eRM r w I L), ((r 26), eRW ba BI), ((ba 0), aI k 8 bn), ((r 27), eRW aa AI), ((aa 0), aI k 8 an)] sz)) 0 0 (va_A [(o, eRM r w I L), ((r 26), eRW ba BI), ((ba 0), aI k 8 bn), ((r 27), eRW aa AI), ((aa 0), aI k 8 an)] sz) := by
  refine Met.start (Qc := q_X1_waysTo10 D k o r I L w ba BI bn aa AI an x y z bm am xj yj) (by decide) (Nat.le_of_ble_eq_true rfl) ?_
  intro p e s m below meth c A hx hb hr hlocks hml hown hin hts hg hP hD hA hAn hS hY hsz ls hl
  have hown : s.vm.findClass RX1 = some m.cls := hown
  have hl : lv_has ls 4 [(0, .ref o), (1, .int x), (2, .int y), (3, .int z)] := hl
  refine lv_iload_n hx hb dX1_waysTo_0 rfl (lv_at hl 2 rfl) ?_
  refine lv_if_ne (tgt := 14) hx hb dX1_waysTo_1 (by decide) (fun c1 => ?_) (fun c1 => ?_)
  · refine lv_aload_n hx hb dX1_waysTo_14 rfl (lv_at hl 0 rfl) ?_
    refine va_get (D := D) (ci := 0) (v := .ref (r 26)) (C := RX1) (T := TX1) (N := 29) hx hb hts in_X1 hown hg.1 hP 0 rfl rfl 26 (Nat.le_of_ble_eq_true rfl) (hts _ q390) (fun _ h9 => h9) rfl dX1_waysTo_15 ?_
    refine va_get (D := D) (ci := 5) (v := .int (BI 1)) (C := RX6) (T := TX6) (N := 2) hx hb hts in_X6 hown hg.1 hP 1 rfl rfl 1 (Nat.le_of_ble_eq_true rfl) (hts _ q340) (fun _ h9 => h9) rfl dX1_waysTo_18 ?_
    refine lv_aload_n hx hb dX1_waysTo_21 rfl (lv_at hl 0 rfl) ?_
    refine va_get (D := D) (ci := 0) (v := .ref (r 27)) (C := RX1) (T := TX1) (N := 29) hx hb hts in_X1 hown hg.1 hP 0 rfl rfl 27 (Nat.le_of_ble_eq_true rfl) (hts _ q391) (fun _ h9 => h9) rfl dX1_waysTo_22 ?_
    refine va_get (D := D) (ci := 5) (v := .int (AI 1)) (C := RX6) (T := TX6) (N := 2) hx hb hts in_X6 hown hg.1 hP 3 rfl rfl 1 (Nat.le_of_ble_eq_true rfl) (hts _ q340) (fun _ h9 => h9) rfl dX1_waysTo_25 ?_
    refine lv_iadd hx hb dX1_waysTo_28 ?_
    refine lv_iload_n hx hb dX1_waysTo_29 rfl (lv_at hl 1 rfl) ?_
    refine lv_isub hx hb dX1_waysTo_30 ?_
    refine lv_iload_n hx hb dX1_waysTo_31 rfl (lv_at hl 2 rfl) ?_
    refine lv_icmp_ge (tgt := 37) hx hb dX1_waysTo_32 (by decide) (fun c2 => ?_) (fun c2 => ?_)
    · obtain ⟨hy1, hyl⟩ := wt_live hbm hb8 ham ha8 hxj hyj hy8 hxb c1 c2
      refine lv_aload_n hx hb dX1_waysTo_37 rfl (lv_at hl 0 rfl) ?_
      refine lv_iload_n hx hb dX1_waysTo_38 rfl (lv_at hl 1 rfl) ?_
      refine lv_iconst (v := 1) hx hb dX1_waysTo_39 ci_1 ?_
      refine lv_iadd hx hb dX1_waysTo_40 ?_
      refine lv_iload_n hx hb dX1_waysTo_41 rfl (lv_at hl 2 rfl) ?_
      refine lv_iconst (v := 1) hx hb dX1_waysTo_42 ci_1 ?_
      refine lv_isub hx hb dX1_waysTo_43 ?_
      refine lv_iload_n hx hb dX1_waysTo_44 rfl (lv_at hl 3 rfl) ?_
      refine lv_aload_n hx hb dX1_waysTo_45 rfl (lv_at hl 0 rfl) ?_
      refine lv_iload_n hx hb dX1_waysTo_46 rfl (lv_at hl 1 rfl) ?_
      refine xc_i (wc := [(o, eRM r w I L), ((r 26), eRW ba BI), ((ba 0), aI k 8 bn), ((r 27), eRW aa AI), ((aa 0), aI k 8 an)]) (wr := []) hP hD hS hA [0, 1, 2, 3, 4] [] rfl rfl rfl (by decide) (xrV ⟨hx, hb, hml, hown, hts⟩ hg (m_X1_numberAt l D k _ o r I L w ba BI bn aa AI an x bm am xj hbm hb8 ham ha8 hxj (by omega)) hP hD [0, 1, 2, 3, 4] rfl rfl trivial (ci := 0) (q0 := 0) rfl rfl rfl q1073 q1075 qs38 q83 q1076 xo_X1_numberAt ⟨rfl, rfl⟩ ⟨Nat.le_of_ble_eq_true rfl, Nat.le_of_ble_eq_true rfl⟩ hl.1 (Nat.le_of_ble_eq_true rfl) dX1_waysTo_47 ⟨Nat.le_of_ble_eq_true rfl, Nat.le_of_ble_eq_true rfl⟩ rfl) (fun u3 r_ H locs hw hP hD hS hk => ?_)
      obtain ⟨rfl, eu3⟩ := hw
      replace hP : va_P D vwCl [(o, eRM r w I L), ((r 26), eRW ba BI), ((ba 0), aI k 8 bn), ((r 27), eRW aa AI), ((aa 0), aI k 8 an)] H := hP.sub [0, 1, 2, 3, 4] rfl
      replace hD : va_D A [(o, eRM r w I L), ((r 26), eRW ba BI), ((ba 0), aI k 8 bn), ((r 27), eRW aa AI), ((aa 0), aI k 8 an)] := hD.sub [0, 1, 2, 3, 4] (by decide) rfl
      refine lv_isub hx hb dX1_waysTo_50 ?_
      refine xc_i (wc := [(o, eRM r w I L), ((r 26), eRW ba BI), ((ba 0), aI k 8 bn), ((r 27), eRW aa AI), ((aa 0), aI k 8 an)]) (wr := []) hP hD hS hA [0, 1, 2, 3, 4] [] rfl rfl rfl (by decide) (xrV ⟨hx, hb, hml, hown, hts⟩ hg (m_X1_waysTo9 l D k _ o r I L w ba BI bn aa AI an (x + 1) (y - 1) (z - u3) bm am (xj + 1) (yj - 1) hbm hb8 ham ha8 (xnadd hxj (show (1 : Int32) = nI 1 from rfl)) (xnsub hyj (show (1 : Int32) = nI 1 from rfl) (by omega)) (by omega) (by omega) (by omega)) hP hD [0, 1, 2, 3, 4] rfl rfl trivial (ci := 0) (q0 := 0) rfl rfl rfl q1069 q1071 qs37 q83 q1072 xo_X1_waysTo ⟨rfl, rfl⟩ ⟨Nat.le_of_ble_eq_true rfl, Nat.le_of_ble_eq_true rfl⟩ hl.1 (Nat.le_of_ble_eq_true rfl) dX1_waysTo_51 ⟨Nat.le_of_ble_eq_true rfl, Nat.le_of_ble_eq_true rfl⟩ rfl) (fun u4 r_ H locs hw hP hD hS hk => ?_)
      obtain ⟨rfl, eu4⟩ := hw
      replace hP : va_P D vwCl [(o, eRM r w I L), ((r 26), eRW ba BI), ((ba 0), aI k 8 bn), ((r 27), eRW aa AI), ((aa 0), aI k 8 an)] H := hP.sub [0, 1, 2, 3, 4] rfl
      replace hD : va_D A [(o, eRM r w I L), ((r 26), eRW ba BI), ((ba 0), aI k 8 bn), ((r 27), eRW aa AI), ((aa 0), aI k 8 an)] := hD.sub [0, 1, 2, 3, 4] (by decide) rfl
      refine lv_aload_n hx hb dX1_waysTo_54 rfl (lv_at hl 0 rfl) ?_
      refine lv_iload_n hx hb dX1_waysTo_55 rfl (lv_at hl 1 rfl) ?_
      refine lv_iconst (v := 1) hx hb dX1_waysTo_56 ci_1 ?_
      refine lv_iadd hx hb dX1_waysTo_57 ?_
      refine lv_iload_n hx hb dX1_waysTo_58 rfl (lv_at hl 2 rfl) ?_
      refine lv_iload_n hx hb dX1_waysTo_59 rfl (lv_at hl 3 rfl) ?_
      refine xc_i (wc := [(o, eRM r w I L), ((r 26), eRW ba BI), ((ba 0), aI k 8 bn), ((r 27), eRW aa AI), ((aa 0), aI k 8 an)]) (wr := []) hP hD hS hA [0, 1, 2, 3, 4] [] rfl rfl rfl (by decide) (xrV ⟨hx, hb, hml, hown, hts⟩ hg (m_X1_waysTo9 l D k _ o r I L w ba BI bn aa AI an (x + 1) y z bm am (xj + 1) yj hbm hb8 ham ha8 (xnadd hxj (show (1 : Int32) = nI 1 from rfl)) hyj hy8 (by omega) (by omega)) hP hD [0, 1, 2, 3, 4] rfl rfl trivial (ci := 0) (q0 := 0) rfl rfl rfl q1069 q1071 qs37 q83 q1072 xo_X1_waysTo ⟨rfl, rfl⟩ ⟨Nat.le_of_ble_eq_true rfl, Nat.le_of_ble_eq_true rfl⟩ hl.1 (Nat.le_of_ble_eq_true rfl) dX1_waysTo_60 ⟨Nat.le_of_ble_eq_true rfl, Nat.le_of_ble_eq_true rfl⟩ rfl) (fun u5 r_ H locs hw hP hD hS hk => ?_)
      obtain ⟨rfl, eu5⟩ := hw
      replace hP : va_P D vwCl [(o, eRM r w I L), ((r 26), eRW ba BI), ((ba 0), aI k 8 bn), ((r 27), eRW aa AI), ((aa 0), aI k 8 an)] H := hP.sub [0, 1, 2, 3, 4] rfl
      replace hD : va_D A [(o, eRM r w I L), ((r 26), eRW ba BI), ((ba 0), aI k 8 bn), ((r 27), eRW aa AI), ((aa 0), aI k 8 an)] := hD.sub [0, 1, 2, 3, 4] (by decide) rfl
      refine lv_iadd hx hb dX1_waysTo_63 ?_
      exact xret_i hx hb hr hlocks (Nat.le_of_ble_eq_true rfl) (Nat.le_of_ble_eq_true rfl) hS.2.2 dX1_waysTo_64 (fun t ht => ⟨⟨(u4 + u5), (u4 + u5), rfl, ⟨rfl, (by subst eu5; subst eu4; subst eu3; exact Eq.symm (Eq.trans (if_neg c1) (Eq.trans (if_pos c2) (rfl))))⟩, by rw [ht]; exact hP, hD⟩, hS.F ht⟩)
    · refine lv_iconst (v := 0) hx hb dX1_waysTo_35 ci_0 ?_
      exact xret_i hx hb hr hlocks (Nat.le_of_ble_eq_true rfl) (Nat.le_of_ble_eq_true rfl) hS.2.2 dX1_waysTo_36 (fun t ht => ⟨⟨0, 0, rfl, ⟨rfl, (by exact Eq.symm (Eq.trans (if_neg c1) (Eq.trans (if_neg c2) (rfl))))⟩, by rw [ht]; exact hP, hD⟩, hS.F ht⟩)
  · refine lv_iload_n hx hb dX1_waysTo_4 rfl (lv_at hl 3 rfl) ?_
    have Jn1 : ∀ (v8 : (Int32)) (H : Heap) (locs : List Loc) (ls : Array Slot), v8 = f_X1_waysTo10_j1 z → (v8 = 0 ∨ v8 = 1) → va_P D vwCl [(o, eRM r w I L), ((r 26), eRW ba BI), ((ba 0), aI k 8 bn), ((r 27), eRW aa AI), ((aa 0), aI k 8 an)] H → va_D A [(o, eRM r w I L), ((r 26), eRW ba BI), ((ba 0), aI k 8 bn), ((r 27), eRW aa AI), ((aa 0), aI k 8 an)] → va_S A s.heap H locs → lv_has ls 4 [(0, .ref o), (1, .int x), (2, .int y), (3, .int z)] → W p l e rm_X1_waysTo10 s m ([.ref o, .int x, .int y, .int z] : List Value).toArray below meth c H locs 0 0 (MQ below (q_X1_waysTo10 D k o r I L w ba BI bn aa AI an x y z bm am xj yj A) ([.ref o, .int x, .int y, .int z] : List Value).toArray s 0 0 A) (F0 m 13 ls [.int v8]) := by
      intro v8 H locs ls ev8 bv8_0 hP hD hS hl
      exact xret_i hx hb hr hlocks (Nat.le_of_ble_eq_true rfl) (Nat.le_of_ble_eq_true rfl) hS.2.2 dX1_waysTo_13 (fun t ht => ⟨⟨v8, v8, rfl, ⟨rfl, (by subst ev8; exact Eq.symm (Eq.trans (if_pos c1) (rfl)))⟩, by rw [ht]; exact hP, hD⟩, hS.F ht⟩)
    refine lv_if_gt (tgt := 12) hx hb dX1_waysTo_5 (by decide) (fun c9 => ?_) (fun c9 => ?_)
    · refine lv_iconst (v := 0) hx hb dX1_waysTo_12 ci_0 ?_
      exact Jn1 0 _ _ _ (by exact Eq.symm (Eq.trans (if_pos c9) (rfl))) (Or.inl rfl) hP hD hS (lv_sub hl [0, 1, 2, 3] rfl)
    · refine lv_iconst (v := 1) hx hb dX1_waysTo_8 ci_1 ?_
      refine lv_goto (tgt := 13) hx hb dX1_waysTo_9 (by decide) ?_
      exact Jn1 1 _ _ _ (by exact Eq.symm (Eq.trans (if_neg c9) (rfl))) (Or.inr rfl) hP hD hS (lv_sub hl [0, 1, 2, 3] rfl)

def f_X1_waysTo11_j1 (z : Int32) : (Int32) :=
  if 0 < z then
    0
  else
    1
def f_X1_waysTo11 (BI : Nat → Int32) (bn : Nat → Int32) (AI : Nat → Int32) (an : Nat → Int32) (x : Int32) (y : Int32) (z : Int32) (bm : Nat) (xj : Nat) : Int32 :=
  if y = 0 then
    let v8 := f_X1_waysTo11_j1 z
    v8
  else
    if y ≤ (((BI 1) + (AI 1)) - x) then
      let u3 := f_X1_numberAt BI bn an x bm xj
      let u4 := f_X1_waysTo10 BI bn AI an (x + 1) (y - 1) (z - u3) bm (xj + 1)
      let u5 := f_X1_waysTo10 BI bn AI an (x + 1) y z bm (xj + 1)
      (u4 + u5)
    else
      0
abbrev q_X1_waysTo11 (D : va_G) (k : KK) (o : Nat) (r : Nat → Nat) (I : Nat → Int32) (L : Nat → Int64) (w : Value) (ba : Nat → Nat) (BI : Nat → Int32) (bn : Nat → Int32) (aa : Nat → Nat) (AI : Nat → Int32) (an : Nat → Int32) (x : Int32) (y : Int32) (z : Int32) (bm : Nat) (am : Nat) (xj : Nat) (yj : Nat) (A : Nat → Prop) : Array Value → State → Outcome → State → Prop := va_Qi (fun (r_ : Int32) (u : Int32) => r_ = u ∧ u = f_X1_waysTo11 BI bn AI an x y z bm xj) (bx D (fun u => [(o, eRM r w I L), ((r 26), eRW ba BI), ((ba 0), aI k 8 bn), ((r 27), eRW aa AI), ((aa 0), aI k 8 an)]) A) A
abbrev rm_X1_waysTo11 : Room := { frames := 14, cells := 0, slots := 0, locals := 560 }
set_option maxHeartbeats 8000000 in
theorem m_X1_waysTo11 (l : Launch) (D : va_G) (k : KK) (sz : Nat) (o : Nat) (r : Nat → Nat) (I : Nat → Int32) (L : Nat → Int64) (w : Value) (ba : Nat → Nat) (BI : Nat → Int32) (bn : Nat → Int32) (aa : Nat → Nat) (AI : Nat → Int32) (an : Nat → Int32) (x : Int32) (y : Int32) (z : Int32) (bm : Nat) (am : Nat) (xj : Nat) (yj : Nat) (hbm : BI 1 = nI bm) (hb8 : bm ≤ 8) (ham : AI 1 = nI am) (ha8 : am ≤ 8) (hxj : x = nI xj) (hyj : y = nI yj) (hy8 : yj ≤ 8) (hxb : xj ≤ bm + am) (hd : bm + am ≤ xj + 11) : Met l yX1_waysTo (ws_ yX1_waysTo cX1_waysTo 4 (some .int)) rm_X1_waysTo11 (pcx D k [.ref o, .int x, .int y, .int z] sz [(o, eRM r w I L), ((r 26), eRW ba BI), ((ba 0), aI k 8 bn), ((r 27), eRW aa AI), ((aa 0), aI k 8 an)] (fun _ => True)) (q_X1_waysTo11 D k o r I L w ba BI bn aa AI an x y z bm am xj yj (va_A [(o, eRM r w I L), ((r 26), eRW ba BI), ((ba 0), aI k 8 bn), ((r 27), eRW aa AI), ((aa 0), aI k 8 an)] sz)) 0 0 (va_A [(o, eRM r w I L), ((r 26), eRW ba BI), ((ba 0), aI k 8 bn), ((r 27), eRW aa AI), ((aa 0), aI k 8 an)] sz) := by
  refine Met.start (Qc := q_X1_waysTo11 D k o r I L w ba BI bn aa AI an x y z bm am xj yj) (by decide) (Nat.le_of_ble_eq_true rfl) ?_
  intro p e s m below meth c A hx hb hr hlocks hml hown hin hts hg hP hD hA hAn hS hY hsz ls hl
  have hown : s.vm.findClass RX1 = some m.cls := hown
  have hl : lv_has ls 4 [(0, .ref o), (1, .int x), (2, .int y), (3, .int z)] := hl
  refine lv_iload_n hx hb dX1_waysTo_0 rfl (lv_at hl 2 rfl) ?_
  refine lv_if_ne (tgt := 14) hx hb dX1_waysTo_1 (by decide) (fun c1 => ?_) (fun c1 => ?_)
  · refine lv_aload_n hx hb dX1_waysTo_14 rfl (lv_at hl 0 rfl) ?_
    refine va_get (D := D) (ci := 0) (v := .ref (r 26)) (C := RX1) (T := TX1) (N := 29) hx hb hts in_X1 hown hg.1 hP 0 rfl rfl 26 (Nat.le_of_ble_eq_true rfl) (hts _ q390) (fun _ h9 => h9) rfl dX1_waysTo_15 ?_
    refine va_get (D := D) (ci := 5) (v := .int (BI 1)) (C := RX6) (T := TX6) (N := 2) hx hb hts in_X6 hown hg.1 hP 1 rfl rfl 1 (Nat.le_of_ble_eq_true rfl) (hts _ q340) (fun _ h9 => h9) rfl dX1_waysTo_18 ?_
    refine lv_aload_n hx hb dX1_waysTo_21 rfl (lv_at hl 0 rfl) ?_
    refine va_get (D := D) (ci := 0) (v := .ref (r 27)) (C := RX1) (T := TX1) (N := 29) hx hb hts in_X1 hown hg.1 hP 0 rfl rfl 27 (Nat.le_of_ble_eq_true rfl) (hts _ q391) (fun _ h9 => h9) rfl dX1_waysTo_22 ?_
    refine va_get (D := D) (ci := 5) (v := .int (AI 1)) (C := RX6) (T := TX6) (N := 2) hx hb hts in_X6 hown hg.1 hP 3 rfl rfl 1 (Nat.le_of_ble_eq_true rfl) (hts _ q340) (fun _ h9 => h9) rfl dX1_waysTo_25 ?_
    refine lv_iadd hx hb dX1_waysTo_28 ?_
    refine lv_iload_n hx hb dX1_waysTo_29 rfl (lv_at hl 1 rfl) ?_
    refine lv_isub hx hb dX1_waysTo_30 ?_
    refine lv_iload_n hx hb dX1_waysTo_31 rfl (lv_at hl 2 rfl) ?_
    refine lv_icmp_ge (tgt := 37) hx hb dX1_waysTo_32 (by decide) (fun c2 => ?_) (fun c2 => ?_)
    · obtain ⟨hy1, hyl⟩ := wt_live hbm hb8 ham ha8 hxj hyj hy8 hxb c1 c2
      refine lv_aload_n hx hb dX1_waysTo_37 rfl (lv_at hl 0 rfl) ?_
      refine lv_iload_n hx hb dX1_waysTo_38 rfl (lv_at hl 1 rfl) ?_
      refine lv_iconst (v := 1) hx hb dX1_waysTo_39 ci_1 ?_
      refine lv_iadd hx hb dX1_waysTo_40 ?_
      refine lv_iload_n hx hb dX1_waysTo_41 rfl (lv_at hl 2 rfl) ?_
      refine lv_iconst (v := 1) hx hb dX1_waysTo_42 ci_1 ?_
      refine lv_isub hx hb dX1_waysTo_43 ?_
      refine lv_iload_n hx hb dX1_waysTo_44 rfl (lv_at hl 3 rfl) ?_
      refine lv_aload_n hx hb dX1_waysTo_45 rfl (lv_at hl 0 rfl) ?_
      refine lv_iload_n hx hb dX1_waysTo_46 rfl (lv_at hl 1 rfl) ?_
      refine xc_i (wc := [(o, eRM r w I L), ((r 26), eRW ba BI), ((ba 0), aI k 8 bn), ((r 27), eRW aa AI), ((aa 0), aI k 8 an)]) (wr := []) hP hD hS hA [0, 1, 2, 3, 4] [] rfl rfl rfl (by decide) (xrV ⟨hx, hb, hml, hown, hts⟩ hg (m_X1_numberAt l D k _ o r I L w ba BI bn aa AI an x bm am xj hbm hb8 ham ha8 hxj (by omega)) hP hD [0, 1, 2, 3, 4] rfl rfl trivial (ci := 0) (q0 := 0) rfl rfl rfl q1073 q1075 qs38 q83 q1076 xo_X1_numberAt ⟨rfl, rfl⟩ ⟨Nat.le_of_ble_eq_true rfl, Nat.le_of_ble_eq_true rfl⟩ hl.1 (Nat.le_of_ble_eq_true rfl) dX1_waysTo_47 ⟨Nat.le_of_ble_eq_true rfl, Nat.le_of_ble_eq_true rfl⟩ rfl) (fun u3 r_ H locs hw hP hD hS hk => ?_)
      obtain ⟨rfl, eu3⟩ := hw
      replace hP : va_P D vwCl [(o, eRM r w I L), ((r 26), eRW ba BI), ((ba 0), aI k 8 bn), ((r 27), eRW aa AI), ((aa 0), aI k 8 an)] H := hP.sub [0, 1, 2, 3, 4] rfl
      replace hD : va_D A [(o, eRM r w I L), ((r 26), eRW ba BI), ((ba 0), aI k 8 bn), ((r 27), eRW aa AI), ((aa 0), aI k 8 an)] := hD.sub [0, 1, 2, 3, 4] (by decide) rfl
      refine lv_isub hx hb dX1_waysTo_50 ?_
      refine xc_i (wc := [(o, eRM r w I L), ((r 26), eRW ba BI), ((ba 0), aI k 8 bn), ((r 27), eRW aa AI), ((aa 0), aI k 8 an)]) (wr := []) hP hD hS hA [0, 1, 2, 3, 4] [] rfl rfl rfl (by decide) (xrV ⟨hx, hb, hml, hown, hts⟩ hg (m_X1_waysTo10 l D k _ o r I L w ba BI bn aa AI an (x + 1) (y - 1) (z - u3) bm am (xj + 1) (yj - 1) hbm hb8 ham ha8 (xnadd hxj (show (1 : Int32) = nI 1 from rfl)) (xnsub hyj (show (1 : Int32) = nI 1 from rfl) (by omega)) (by omega) (by omega) (by omega)) hP hD [0, 1, 2, 3, 4] rfl rfl trivial (ci := 0) (q0 := 0) rfl rfl rfl q1069 q1071 qs37 q83 q1072 xo_X1_waysTo ⟨rfl, rfl⟩ ⟨Nat.le_of_ble_eq_true rfl, Nat.le_of_ble_eq_true rfl⟩ hl.1 (Nat.le_of_ble_eq_true rfl) dX1_waysTo_51 ⟨Nat.le_of_ble_eq_true rfl, Nat.le_of_ble_eq_true rfl⟩ rfl) (fun u4 r_ H locs hw hP hD hS hk => ?_)
      obtain ⟨rfl, eu4⟩ := hw
      replace hP : va_P D vwCl [(o, eRM r w I L), ((r 26), eRW ba BI), ((ba 0), aI k 8 bn), ((r 27), eRW aa AI), ((aa 0), aI k 8 an)] H := hP.sub [0, 1, 2, 3, 4] rfl
      replace hD : va_D A [(o, eRM r w I L), ((r 26), eRW ba BI), ((ba 0), aI k 8 bn), ((r 27), eRW aa AI), ((aa 0), aI k 8 an)] := hD.sub [0, 1, 2, 3, 4] (by decide) rfl
      refine lv_aload_n hx hb dX1_waysTo_54 rfl (lv_at hl 0 rfl) ?_
      refine lv_iload_n hx hb dX1_waysTo_55 rfl (lv_at hl 1 rfl) ?_
      refine lv_iconst (v := 1) hx hb dX1_waysTo_56 ci_1 ?_
      refine lv_iadd hx hb dX1_waysTo_57 ?_
      refine lv_iload_n hx hb dX1_waysTo_58 rfl (lv_at hl 2 rfl) ?_
      refine lv_iload_n hx hb dX1_waysTo_59 rfl (lv_at hl 3 rfl) ?_
      refine xc_i (wc := [(o, eRM r w I L), ((r 26), eRW ba BI), ((ba 0), aI k 8 bn), ((r 27), eRW aa AI), ((aa 0), aI k 8 an)]) (wr := []) hP hD hS hA [0, 1, 2, 3, 4] [] rfl rfl rfl (by decide) (xrV ⟨hx, hb, hml, hown, hts⟩ hg (m_X1_waysTo10 l D k _ o r I L w ba BI bn aa AI an (x + 1) y z bm am (xj + 1) yj hbm hb8 ham ha8 (xnadd hxj (show (1 : Int32) = nI 1 from rfl)) hyj hy8 (by omega) (by omega)) hP hD [0, 1, 2, 3, 4] rfl rfl trivial (ci := 0) (q0 := 0) rfl rfl rfl q1069 q1071 qs37 q83 q1072 xo_X1_waysTo ⟨rfl, rfl⟩ ⟨Nat.le_of_ble_eq_true rfl, Nat.le_of_ble_eq_true rfl⟩ hl.1 (Nat.le_of_ble_eq_true rfl) dX1_waysTo_60 ⟨Nat.le_of_ble_eq_true rfl, Nat.le_of_ble_eq_true rfl⟩ rfl) (fun u5 r_ H locs hw hP hD hS hk => ?_)
      obtain ⟨rfl, eu5⟩ := hw
      replace hP : va_P D vwCl [(o, eRM r w I L), ((r 26), eRW ba BI), ((ba 0), aI k 8 bn), ((r 27), eRW aa AI), ((aa 0), aI k 8 an)] H := hP.sub [0, 1, 2, 3, 4] rfl
      replace hD : va_D A [(o, eRM r w I L), ((r 26), eRW ba BI), ((ba 0), aI k 8 bn), ((r 27), eRW aa AI), ((aa 0), aI k 8 an)] := hD.sub [0, 1, 2, 3, 4] (by decide) rfl
      refine lv_iadd hx hb dX1_waysTo_63 ?_
      exact xret_i hx hb hr hlocks (Nat.le_of_ble_eq_true rfl) (Nat.le_of_ble_eq_true rfl) hS.2.2 dX1_waysTo_64 (fun t ht => ⟨⟨(u4 + u5), (u4 + u5), rfl, ⟨rfl, (by subst eu5; subst eu4; subst eu3; exact Eq.symm (Eq.trans (if_neg c1) (Eq.trans (if_pos c2) (rfl))))⟩, by rw [ht]; exact hP, hD⟩, hS.F ht⟩)
    · refine lv_iconst (v := 0) hx hb dX1_waysTo_35 ci_0 ?_
      exact xret_i hx hb hr hlocks (Nat.le_of_ble_eq_true rfl) (Nat.le_of_ble_eq_true rfl) hS.2.2 dX1_waysTo_36 (fun t ht => ⟨⟨0, 0, rfl, ⟨rfl, (by exact Eq.symm (Eq.trans (if_neg c1) (Eq.trans (if_neg c2) (rfl))))⟩, by rw [ht]; exact hP, hD⟩, hS.F ht⟩)
  · refine lv_iload_n hx hb dX1_waysTo_4 rfl (lv_at hl 3 rfl) ?_
    have Jn1 : ∀ (v8 : (Int32)) (H : Heap) (locs : List Loc) (ls : Array Slot), v8 = f_X1_waysTo11_j1 z → (v8 = 0 ∨ v8 = 1) → va_P D vwCl [(o, eRM r w I L), ((r 26), eRW ba BI), ((ba 0), aI k 8 bn), ((r 27), eRW aa AI), ((aa 0), aI k 8 an)] H → va_D A [(o, eRM r w I L), ((r 26), eRW ba BI), ((ba 0), aI k 8 bn), ((r 27), eRW aa AI), ((aa 0), aI k 8 an)] → va_S A s.heap H locs → lv_has ls 4 [(0, .ref o), (1, .int x), (2, .int y), (3, .int z)] → W p l e rm_X1_waysTo11 s m ([.ref o, .int x, .int y, .int z] : List Value).toArray below meth c H locs 0 0 (MQ below (q_X1_waysTo11 D k o r I L w ba BI bn aa AI an x y z bm am xj yj A) ([.ref o, .int x, .int y, .int z] : List Value).toArray s 0 0 A) (F0 m 13 ls [.int v8]) := by
      intro v8 H locs ls ev8 bv8_0 hP hD hS hl
      exact xret_i hx hb hr hlocks (Nat.le_of_ble_eq_true rfl) (Nat.le_of_ble_eq_true rfl) hS.2.2 dX1_waysTo_13 (fun t ht => ⟨⟨v8, v8, rfl, ⟨rfl, (by subst ev8; exact Eq.symm (Eq.trans (if_pos c1) (rfl)))⟩, by rw [ht]; exact hP, hD⟩, hS.F ht⟩)
    refine lv_if_gt (tgt := 12) hx hb dX1_waysTo_5 (by decide) (fun c9 => ?_) (fun c9 => ?_)
    · refine lv_iconst (v := 0) hx hb dX1_waysTo_12 ci_0 ?_
      exact Jn1 0 _ _ _ (by exact Eq.symm (Eq.trans (if_pos c9) (rfl))) (Or.inl rfl) hP hD hS (lv_sub hl [0, 1, 2, 3] rfl)
    · refine lv_iconst (v := 1) hx hb dX1_waysTo_8 ci_1 ?_
      refine lv_goto (tgt := 13) hx hb dX1_waysTo_9 (by decide) ?_
      exact Jn1 1 _ _ _ (by exact Eq.symm (Eq.trans (if_neg c9) (rfl))) (Or.inr rfl) hP hD hS (lv_sub hl [0, 1, 2, 3] rfl)

def f_X1_waysTo12_j1 (z : Int32) : (Int32) :=
  if 0 < z then
    0
  else
    1
def f_X1_waysTo12 (BI : Nat → Int32) (bn : Nat → Int32) (AI : Nat → Int32) (an : Nat → Int32) (x : Int32) (y : Int32) (z : Int32) (bm : Nat) (xj : Nat) : Int32 :=
  if y = 0 then
    let v8 := f_X1_waysTo12_j1 z
    v8
  else
    if y ≤ (((BI 1) + (AI 1)) - x) then
      let u3 := f_X1_numberAt BI bn an x bm xj
      let u4 := f_X1_waysTo11 BI bn AI an (x + 1) (y - 1) (z - u3) bm (xj + 1)
      let u5 := f_X1_waysTo11 BI bn AI an (x + 1) y z bm (xj + 1)
      (u4 + u5)
    else
      0
abbrev q_X1_waysTo12 (D : va_G) (k : KK) (o : Nat) (r : Nat → Nat) (I : Nat → Int32) (L : Nat → Int64) (w : Value) (ba : Nat → Nat) (BI : Nat → Int32) (bn : Nat → Int32) (aa : Nat → Nat) (AI : Nat → Int32) (an : Nat → Int32) (x : Int32) (y : Int32) (z : Int32) (bm : Nat) (am : Nat) (xj : Nat) (yj : Nat) (A : Nat → Prop) : Array Value → State → Outcome → State → Prop := va_Qi (fun (r_ : Int32) (u : Int32) => r_ = u ∧ u = f_X1_waysTo12 BI bn AI an x y z bm xj) (bx D (fun u => [(o, eRM r w I L), ((r 26), eRW ba BI), ((ba 0), aI k 8 bn), ((r 27), eRW aa AI), ((aa 0), aI k 8 an)]) A) A
abbrev rm_X1_waysTo12 : Room := { frames := 15, cells := 0, slots := 0, locals := 600 }
set_option maxHeartbeats 8000000 in
theorem m_X1_waysTo12 (l : Launch) (D : va_G) (k : KK) (sz : Nat) (o : Nat) (r : Nat → Nat) (I : Nat → Int32) (L : Nat → Int64) (w : Value) (ba : Nat → Nat) (BI : Nat → Int32) (bn : Nat → Int32) (aa : Nat → Nat) (AI : Nat → Int32) (an : Nat → Int32) (x : Int32) (y : Int32) (z : Int32) (bm : Nat) (am : Nat) (xj : Nat) (yj : Nat) (hbm : BI 1 = nI bm) (hb8 : bm ≤ 8) (ham : AI 1 = nI am) (ha8 : am ≤ 8) (hxj : x = nI xj) (hyj : y = nI yj) (hy8 : yj ≤ 8) (hxb : xj ≤ bm + am) (hd : bm + am ≤ xj + 12) : Met l yX1_waysTo (ws_ yX1_waysTo cX1_waysTo 4 (some .int)) rm_X1_waysTo12 (pcx D k [.ref o, .int x, .int y, .int z] sz [(o, eRM r w I L), ((r 26), eRW ba BI), ((ba 0), aI k 8 bn), ((r 27), eRW aa AI), ((aa 0), aI k 8 an)] (fun _ => True)) (q_X1_waysTo12 D k o r I L w ba BI bn aa AI an x y z bm am xj yj (va_A [(o, eRM r w I L), ((r 26), eRW ba BI), ((ba 0), aI k 8 bn), ((r 27), eRW aa AI), ((aa 0), aI k 8 an)] sz)) 0 0 (va_A [(o, eRM r w I L), ((r 26), eRW ba BI), ((ba 0), aI k 8 bn), ((r 27), eRW aa AI), ((aa 0), aI k 8 an)] sz) := by
  refine Met.start (Qc := q_X1_waysTo12 D k o r I L w ba BI bn aa AI an x y z bm am xj yj) (by decide) (Nat.le_of_ble_eq_true rfl) ?_
  intro p e s m below meth c A hx hb hr hlocks hml hown hin hts hg hP hD hA hAn hS hY hsz ls hl
  have hown : s.vm.findClass RX1 = some m.cls := hown
  have hl : lv_has ls 4 [(0, .ref o), (1, .int x), (2, .int y), (3, .int z)] := hl
  refine lv_iload_n hx hb dX1_waysTo_0 rfl (lv_at hl 2 rfl) ?_
  refine lv_if_ne (tgt := 14) hx hb dX1_waysTo_1 (by decide) (fun c1 => ?_) (fun c1 => ?_)
  · refine lv_aload_n hx hb dX1_waysTo_14 rfl (lv_at hl 0 rfl) ?_
    refine va_get (D := D) (ci := 0) (v := .ref (r 26)) (C := RX1) (T := TX1) (N := 29) hx hb hts in_X1 hown hg.1 hP 0 rfl rfl 26 (Nat.le_of_ble_eq_true rfl) (hts _ q390) (fun _ h9 => h9) rfl dX1_waysTo_15 ?_
    refine va_get (D := D) (ci := 5) (v := .int (BI 1)) (C := RX6) (T := TX6) (N := 2) hx hb hts in_X6 hown hg.1 hP 1 rfl rfl 1 (Nat.le_of_ble_eq_true rfl) (hts _ q340) (fun _ h9 => h9) rfl dX1_waysTo_18 ?_
    refine lv_aload_n hx hb dX1_waysTo_21 rfl (lv_at hl 0 rfl) ?_
    refine va_get (D := D) (ci := 0) (v := .ref (r 27)) (C := RX1) (T := TX1) (N := 29) hx hb hts in_X1 hown hg.1 hP 0 rfl rfl 27 (Nat.le_of_ble_eq_true rfl) (hts _ q391) (fun _ h9 => h9) rfl dX1_waysTo_22 ?_
    refine va_get (D := D) (ci := 5) (v := .int (AI 1)) (C := RX6) (T := TX6) (N := 2) hx hb hts in_X6 hown hg.1 hP 3 rfl rfl 1 (Nat.le_of_ble_eq_true rfl) (hts _ q340) (fun _ h9 => h9) rfl dX1_waysTo_25 ?_
    refine lv_iadd hx hb dX1_waysTo_28 ?_
    refine lv_iload_n hx hb dX1_waysTo_29 rfl (lv_at hl 1 rfl) ?_
    refine lv_isub hx hb dX1_waysTo_30 ?_
    refine lv_iload_n hx hb dX1_waysTo_31 rfl (lv_at hl 2 rfl) ?_
    refine lv_icmp_ge (tgt := 37) hx hb dX1_waysTo_32 (by decide) (fun c2 => ?_) (fun c2 => ?_)
    · obtain ⟨hy1, hyl⟩ := wt_live hbm hb8 ham ha8 hxj hyj hy8 hxb c1 c2
      refine lv_aload_n hx hb dX1_waysTo_37 rfl (lv_at hl 0 rfl) ?_
      refine lv_iload_n hx hb dX1_waysTo_38 rfl (lv_at hl 1 rfl) ?_
      refine lv_iconst (v := 1) hx hb dX1_waysTo_39 ci_1 ?_
      refine lv_iadd hx hb dX1_waysTo_40 ?_
      refine lv_iload_n hx hb dX1_waysTo_41 rfl (lv_at hl 2 rfl) ?_
      refine lv_iconst (v := 1) hx hb dX1_waysTo_42 ci_1 ?_
      refine lv_isub hx hb dX1_waysTo_43 ?_
      refine lv_iload_n hx hb dX1_waysTo_44 rfl (lv_at hl 3 rfl) ?_
      refine lv_aload_n hx hb dX1_waysTo_45 rfl (lv_at hl 0 rfl) ?_
      refine lv_iload_n hx hb dX1_waysTo_46 rfl (lv_at hl 1 rfl) ?_
      refine xc_i (wc := [(o, eRM r w I L), ((r 26), eRW ba BI), ((ba 0), aI k 8 bn), ((r 27), eRW aa AI), ((aa 0), aI k 8 an)]) (wr := []) hP hD hS hA [0, 1, 2, 3, 4] [] rfl rfl rfl (by decide) (xrV ⟨hx, hb, hml, hown, hts⟩ hg (m_X1_numberAt l D k _ o r I L w ba BI bn aa AI an x bm am xj hbm hb8 ham ha8 hxj (by omega)) hP hD [0, 1, 2, 3, 4] rfl rfl trivial (ci := 0) (q0 := 0) rfl rfl rfl q1073 q1075 qs38 q83 q1076 xo_X1_numberAt ⟨rfl, rfl⟩ ⟨Nat.le_of_ble_eq_true rfl, Nat.le_of_ble_eq_true rfl⟩ hl.1 (Nat.le_of_ble_eq_true rfl) dX1_waysTo_47 ⟨Nat.le_of_ble_eq_true rfl, Nat.le_of_ble_eq_true rfl⟩ rfl) (fun u3 r_ H locs hw hP hD hS hk => ?_)
      obtain ⟨rfl, eu3⟩ := hw
      replace hP : va_P D vwCl [(o, eRM r w I L), ((r 26), eRW ba BI), ((ba 0), aI k 8 bn), ((r 27), eRW aa AI), ((aa 0), aI k 8 an)] H := hP.sub [0, 1, 2, 3, 4] rfl
      replace hD : va_D A [(o, eRM r w I L), ((r 26), eRW ba BI), ((ba 0), aI k 8 bn), ((r 27), eRW aa AI), ((aa 0), aI k 8 an)] := hD.sub [0, 1, 2, 3, 4] (by decide) rfl
      refine lv_isub hx hb dX1_waysTo_50 ?_
      refine xc_i (wc := [(o, eRM r w I L), ((r 26), eRW ba BI), ((ba 0), aI k 8 bn), ((r 27), eRW aa AI), ((aa 0), aI k 8 an)]) (wr := []) hP hD hS hA [0, 1, 2, 3, 4] [] rfl rfl rfl (by decide) (xrV ⟨hx, hb, hml, hown, hts⟩ hg (m_X1_waysTo11 l D k _ o r I L w ba BI bn aa AI an (x + 1) (y - 1) (z - u3) bm am (xj + 1) (yj - 1) hbm hb8 ham ha8 (xnadd hxj (show (1 : Int32) = nI 1 from rfl)) (xnsub hyj (show (1 : Int32) = nI 1 from rfl) (by omega)) (by omega) (by omega) (by omega)) hP hD [0, 1, 2, 3, 4] rfl rfl trivial (ci := 0) (q0 := 0) rfl rfl rfl q1069 q1071 qs37 q83 q1072 xo_X1_waysTo ⟨rfl, rfl⟩ ⟨Nat.le_of_ble_eq_true rfl, Nat.le_of_ble_eq_true rfl⟩ hl.1 (Nat.le_of_ble_eq_true rfl) dX1_waysTo_51 ⟨Nat.le_of_ble_eq_true rfl, Nat.le_of_ble_eq_true rfl⟩ rfl) (fun u4 r_ H locs hw hP hD hS hk => ?_)
      obtain ⟨rfl, eu4⟩ := hw
      replace hP : va_P D vwCl [(o, eRM r w I L), ((r 26), eRW ba BI), ((ba 0), aI k 8 bn), ((r 27), eRW aa AI), ((aa 0), aI k 8 an)] H := hP.sub [0, 1, 2, 3, 4] rfl
      replace hD : va_D A [(o, eRM r w I L), ((r 26), eRW ba BI), ((ba 0), aI k 8 bn), ((r 27), eRW aa AI), ((aa 0), aI k 8 an)] := hD.sub [0, 1, 2, 3, 4] (by decide) rfl
      refine lv_aload_n hx hb dX1_waysTo_54 rfl (lv_at hl 0 rfl) ?_
      refine lv_iload_n hx hb dX1_waysTo_55 rfl (lv_at hl 1 rfl) ?_
      refine lv_iconst (v := 1) hx hb dX1_waysTo_56 ci_1 ?_
      refine lv_iadd hx hb dX1_waysTo_57 ?_
      refine lv_iload_n hx hb dX1_waysTo_58 rfl (lv_at hl 2 rfl) ?_
      refine lv_iload_n hx hb dX1_waysTo_59 rfl (lv_at hl 3 rfl) ?_
      refine xc_i (wc := [(o, eRM r w I L), ((r 26), eRW ba BI), ((ba 0), aI k 8 bn), ((r 27), eRW aa AI), ((aa 0), aI k 8 an)]) (wr := []) hP hD hS hA [0, 1, 2, 3, 4] [] rfl rfl rfl (by decide) (xrV ⟨hx, hb, hml, hown, hts⟩ hg (m_X1_waysTo11 l D k _ o r I L w ba BI bn aa AI an (x + 1) y z bm am (xj + 1) yj hbm hb8 ham ha8 (xnadd hxj (show (1 : Int32) = nI 1 from rfl)) hyj hy8 (by omega) (by omega)) hP hD [0, 1, 2, 3, 4] rfl rfl trivial (ci := 0) (q0 := 0) rfl rfl rfl q1069 q1071 qs37 q83 q1072 xo_X1_waysTo ⟨rfl, rfl⟩ ⟨Nat.le_of_ble_eq_true rfl, Nat.le_of_ble_eq_true rfl⟩ hl.1 (Nat.le_of_ble_eq_true rfl) dX1_waysTo_60 ⟨Nat.le_of_ble_eq_true rfl, Nat.le_of_ble_eq_true rfl⟩ rfl) (fun u5 r_ H locs hw hP hD hS hk => ?_)
      obtain ⟨rfl, eu5⟩ := hw
      replace hP : va_P D vwCl [(o, eRM r w I L), ((r 26), eRW ba BI), ((ba 0), aI k 8 bn), ((r 27), eRW aa AI), ((aa 0), aI k 8 an)] H := hP.sub [0, 1, 2, 3, 4] rfl
      replace hD : va_D A [(o, eRM r w I L), ((r 26), eRW ba BI), ((ba 0), aI k 8 bn), ((r 27), eRW aa AI), ((aa 0), aI k 8 an)] := hD.sub [0, 1, 2, 3, 4] (by decide) rfl
      refine lv_iadd hx hb dX1_waysTo_63 ?_
      exact xret_i hx hb hr hlocks (Nat.le_of_ble_eq_true rfl) (Nat.le_of_ble_eq_true rfl) hS.2.2 dX1_waysTo_64 (fun t ht => ⟨⟨(u4 + u5), (u4 + u5), rfl, ⟨rfl, (by subst eu5; subst eu4; subst eu3; exact Eq.symm (Eq.trans (if_neg c1) (Eq.trans (if_pos c2) (rfl))))⟩, by rw [ht]; exact hP, hD⟩, hS.F ht⟩)
    · refine lv_iconst (v := 0) hx hb dX1_waysTo_35 ci_0 ?_
      exact xret_i hx hb hr hlocks (Nat.le_of_ble_eq_true rfl) (Nat.le_of_ble_eq_true rfl) hS.2.2 dX1_waysTo_36 (fun t ht => ⟨⟨0, 0, rfl, ⟨rfl, (by exact Eq.symm (Eq.trans (if_neg c1) (Eq.trans (if_neg c2) (rfl))))⟩, by rw [ht]; exact hP, hD⟩, hS.F ht⟩)
  · refine lv_iload_n hx hb dX1_waysTo_4 rfl (lv_at hl 3 rfl) ?_
    have Jn1 : ∀ (v8 : (Int32)) (H : Heap) (locs : List Loc) (ls : Array Slot), v8 = f_X1_waysTo12_j1 z → (v8 = 0 ∨ v8 = 1) → va_P D vwCl [(o, eRM r w I L), ((r 26), eRW ba BI), ((ba 0), aI k 8 bn), ((r 27), eRW aa AI), ((aa 0), aI k 8 an)] H → va_D A [(o, eRM r w I L), ((r 26), eRW ba BI), ((ba 0), aI k 8 bn), ((r 27), eRW aa AI), ((aa 0), aI k 8 an)] → va_S A s.heap H locs → lv_has ls 4 [(0, .ref o), (1, .int x), (2, .int y), (3, .int z)] → W p l e rm_X1_waysTo12 s m ([.ref o, .int x, .int y, .int z] : List Value).toArray below meth c H locs 0 0 (MQ below (q_X1_waysTo12 D k o r I L w ba BI bn aa AI an x y z bm am xj yj A) ([.ref o, .int x, .int y, .int z] : List Value).toArray s 0 0 A) (F0 m 13 ls [.int v8]) := by
      intro v8 H locs ls ev8 bv8_0 hP hD hS hl
      exact xret_i hx hb hr hlocks (Nat.le_of_ble_eq_true rfl) (Nat.le_of_ble_eq_true rfl) hS.2.2 dX1_waysTo_13 (fun t ht => ⟨⟨v8, v8, rfl, ⟨rfl, (by subst ev8; exact Eq.symm (Eq.trans (if_pos c1) (rfl)))⟩, by rw [ht]; exact hP, hD⟩, hS.F ht⟩)
    refine lv_if_gt (tgt := 12) hx hb dX1_waysTo_5 (by decide) (fun c9 => ?_) (fun c9 => ?_)
    · refine lv_iconst (v := 0) hx hb dX1_waysTo_12 ci_0 ?_
      exact Jn1 0 _ _ _ (by exact Eq.symm (Eq.trans (if_pos c9) (rfl))) (Or.inl rfl) hP hD hS (lv_sub hl [0, 1, 2, 3] rfl)
    · refine lv_iconst (v := 1) hx hb dX1_waysTo_8 ci_1 ?_
      refine lv_goto (tgt := 13) hx hb dX1_waysTo_9 (by decide) ?_
      exact Jn1 1 _ _ _ (by exact Eq.symm (Eq.trans (if_neg c9) (rfl))) (Or.inr rfl) hP hD hS (lv_sub hl [0, 1, 2, 3] rfl)

def f_X1_waysTo13_j1 (z : Int32) : (Int32) :=
  if 0 < z then
    0
  else
    1
def f_X1_waysTo13 (BI : Nat → Int32) (bn : Nat → Int32) (AI : Nat → Int32) (an : Nat → Int32) (x : Int32) (y : Int32) (z : Int32) (bm : Nat) (xj : Nat) : Int32 :=
  if y = 0 then
    let v8 := f_X1_waysTo13_j1 z
    v8
  else
    if y ≤ (((BI 1) + (AI 1)) - x) then
      let u3 := f_X1_numberAt BI bn an x bm xj
      let u4 := f_X1_waysTo12 BI bn AI an (x + 1) (y - 1) (z - u3) bm (xj + 1)
      let u5 := f_X1_waysTo12 BI bn AI an (x + 1) y z bm (xj + 1)
      (u4 + u5)
    else
      0
abbrev q_X1_waysTo13 (D : va_G) (k : KK) (o : Nat) (r : Nat → Nat) (I : Nat → Int32) (L : Nat → Int64) (w : Value) (ba : Nat → Nat) (BI : Nat → Int32) (bn : Nat → Int32) (aa : Nat → Nat) (AI : Nat → Int32) (an : Nat → Int32) (x : Int32) (y : Int32) (z : Int32) (bm : Nat) (am : Nat) (xj : Nat) (yj : Nat) (A : Nat → Prop) : Array Value → State → Outcome → State → Prop := va_Qi (fun (r_ : Int32) (u : Int32) => r_ = u ∧ u = f_X1_waysTo13 BI bn AI an x y z bm xj) (bx D (fun u => [(o, eRM r w I L), ((r 26), eRW ba BI), ((ba 0), aI k 8 bn), ((r 27), eRW aa AI), ((aa 0), aI k 8 an)]) A) A
abbrev rm_X1_waysTo13 : Room := { frames := 16, cells := 0, slots := 0, locals := 640 }
set_option maxHeartbeats 8000000 in
theorem m_X1_waysTo13 (l : Launch) (D : va_G) (k : KK) (sz : Nat) (o : Nat) (r : Nat → Nat) (I : Nat → Int32) (L : Nat → Int64) (w : Value) (ba : Nat → Nat) (BI : Nat → Int32) (bn : Nat → Int32) (aa : Nat → Nat) (AI : Nat → Int32) (an : Nat → Int32) (x : Int32) (y : Int32) (z : Int32) (bm : Nat) (am : Nat) (xj : Nat) (yj : Nat) (hbm : BI 1 = nI bm) (hb8 : bm ≤ 8) (ham : AI 1 = nI am) (ha8 : am ≤ 8) (hxj : x = nI xj) (hyj : y = nI yj) (hy8 : yj ≤ 8) (hxb : xj ≤ bm + am) (hd : bm + am ≤ xj + 13) : Met l yX1_waysTo (ws_ yX1_waysTo cX1_waysTo 4 (some .int)) rm_X1_waysTo13 (pcx D k [.ref o, .int x, .int y, .int z] sz [(o, eRM r w I L), ((r 26), eRW ba BI), ((ba 0), aI k 8 bn), ((r 27), eRW aa AI), ((aa 0), aI k 8 an)] (fun _ => True)) (q_X1_waysTo13 D k o r I L w ba BI bn aa AI an x y z bm am xj yj (va_A [(o, eRM r w I L), ((r 26), eRW ba BI), ((ba 0), aI k 8 bn), ((r 27), eRW aa AI), ((aa 0), aI k 8 an)] sz)) 0 0 (va_A [(o, eRM r w I L), ((r 26), eRW ba BI), ((ba 0), aI k 8 bn), ((r 27), eRW aa AI), ((aa 0), aI k 8 an)] sz) := by
  refine Met.start (Qc := q_X1_waysTo13 D k o r I L w ba BI bn aa AI an x y z bm am xj yj) (by decide) (Nat.le_of_ble_eq_true rfl) ?_
  intro p e s m below meth c A hx hb hr hlocks hml hown hin hts hg hP hD hA hAn hS hY hsz ls hl
  have hown : s.vm.findClass RX1 = some m.cls := hown
  have hl : lv_has ls 4 [(0, .ref o), (1, .int x), (2, .int y), (3, .int z)] := hl
  refine lv_iload_n hx hb dX1_waysTo_0 rfl (lv_at hl 2 rfl) ?_
  refine lv_if_ne (tgt := 14) hx hb dX1_waysTo_1 (by decide) (fun c1 => ?_) (fun c1 => ?_)
  · refine lv_aload_n hx hb dX1_waysTo_14 rfl (lv_at hl 0 rfl) ?_
    refine va_get (D := D) (ci := 0) (v := .ref (r 26)) (C := RX1) (T := TX1) (N := 29) hx hb hts in_X1 hown hg.1 hP 0 rfl rfl 26 (Nat.le_of_ble_eq_true rfl) (hts _ q390) (fun _ h9 => h9) rfl dX1_waysTo_15 ?_
    refine va_get (D := D) (ci := 5) (v := .int (BI 1)) (C := RX6) (T := TX6) (N := 2) hx hb hts in_X6 hown hg.1 hP 1 rfl rfl 1 (Nat.le_of_ble_eq_true rfl) (hts _ q340) (fun _ h9 => h9) rfl dX1_waysTo_18 ?_
    refine lv_aload_n hx hb dX1_waysTo_21 rfl (lv_at hl 0 rfl) ?_
    refine va_get (D := D) (ci := 0) (v := .ref (r 27)) (C := RX1) (T := TX1) (N := 29) hx hb hts in_X1 hown hg.1 hP 0 rfl rfl 27 (Nat.le_of_ble_eq_true rfl) (hts _ q391) (fun _ h9 => h9) rfl dX1_waysTo_22 ?_
    refine va_get (D := D) (ci := 5) (v := .int (AI 1)) (C := RX6) (T := TX6) (N := 2) hx hb hts in_X6 hown hg.1 hP 3 rfl rfl 1 (Nat.le_of_ble_eq_true rfl) (hts _ q340) (fun _ h9 => h9) rfl dX1_waysTo_25 ?_
    refine lv_iadd hx hb dX1_waysTo_28 ?_
    refine lv_iload_n hx hb dX1_waysTo_29 rfl (lv_at hl 1 rfl) ?_
    refine lv_isub hx hb dX1_waysTo_30 ?_
    refine lv_iload_n hx hb dX1_waysTo_31 rfl (lv_at hl 2 rfl) ?_
    refine lv_icmp_ge (tgt := 37) hx hb dX1_waysTo_32 (by decide) (fun c2 => ?_) (fun c2 => ?_)
    · obtain ⟨hy1, hyl⟩ := wt_live hbm hb8 ham ha8 hxj hyj hy8 hxb c1 c2
      refine lv_aload_n hx hb dX1_waysTo_37 rfl (lv_at hl 0 rfl) ?_
      refine lv_iload_n hx hb dX1_waysTo_38 rfl (lv_at hl 1 rfl) ?_
      refine lv_iconst (v := 1) hx hb dX1_waysTo_39 ci_1 ?_
      refine lv_iadd hx hb dX1_waysTo_40 ?_
      refine lv_iload_n hx hb dX1_waysTo_41 rfl (lv_at hl 2 rfl) ?_
      refine lv_iconst (v := 1) hx hb dX1_waysTo_42 ci_1 ?_
      refine lv_isub hx hb dX1_waysTo_43 ?_
      refine lv_iload_n hx hb dX1_waysTo_44 rfl (lv_at hl 3 rfl) ?_
      refine lv_aload_n hx hb dX1_waysTo_45 rfl (lv_at hl 0 rfl) ?_
      refine lv_iload_n hx hb dX1_waysTo_46 rfl (lv_at hl 1 rfl) ?_
      refine xc_i (wc := [(o, eRM r w I L), ((r 26), eRW ba BI), ((ba 0), aI k 8 bn), ((r 27), eRW aa AI), ((aa 0), aI k 8 an)]) (wr := []) hP hD hS hA [0, 1, 2, 3, 4] [] rfl rfl rfl (by decide) (xrV ⟨hx, hb, hml, hown, hts⟩ hg (m_X1_numberAt l D k _ o r I L w ba BI bn aa AI an x bm am xj hbm hb8 ham ha8 hxj (by omega)) hP hD [0, 1, 2, 3, 4] rfl rfl trivial (ci := 0) (q0 := 0) rfl rfl rfl q1073 q1075 qs38 q83 q1076 xo_X1_numberAt ⟨rfl, rfl⟩ ⟨Nat.le_of_ble_eq_true rfl, Nat.le_of_ble_eq_true rfl⟩ hl.1 (Nat.le_of_ble_eq_true rfl) dX1_waysTo_47 ⟨Nat.le_of_ble_eq_true rfl, Nat.le_of_ble_eq_true rfl⟩ rfl) (fun u3 r_ H locs hw hP hD hS hk => ?_)
      obtain ⟨rfl, eu3⟩ := hw
      replace hP : va_P D vwCl [(o, eRM r w I L), ((r 26), eRW ba BI), ((ba 0), aI k 8 bn), ((r 27), eRW aa AI), ((aa 0), aI k 8 an)] H := hP.sub [0, 1, 2, 3, 4] rfl
      replace hD : va_D A [(o, eRM r w I L), ((r 26), eRW ba BI), ((ba 0), aI k 8 bn), ((r 27), eRW aa AI), ((aa 0), aI k 8 an)] := hD.sub [0, 1, 2, 3, 4] (by decide) rfl
      refine lv_isub hx hb dX1_waysTo_50 ?_
      refine xc_i (wc := [(o, eRM r w I L), ((r 26), eRW ba BI), ((ba 0), aI k 8 bn), ((r 27), eRW aa AI), ((aa 0), aI k 8 an)]) (wr := []) hP hD hS hA [0, 1, 2, 3, 4] [] rfl rfl rfl (by decide) (xrV ⟨hx, hb, hml, hown, hts⟩ hg (m_X1_waysTo12 l D k _ o r I L w ba BI bn aa AI an (x + 1) (y - 1) (z - u3) bm am (xj + 1) (yj - 1) hbm hb8 ham ha8 (xnadd hxj (show (1 : Int32) = nI 1 from rfl)) (xnsub hyj (show (1 : Int32) = nI 1 from rfl) (by omega)) (by omega) (by omega) (by omega)) hP hD [0, 1, 2, 3, 4] rfl rfl trivial (ci := 0) (q0 := 0) rfl rfl rfl q1069 q1071 qs37 q83 q1072 xo_X1_waysTo ⟨rfl, rfl⟩ ⟨Nat.le_of_ble_eq_true rfl, Nat.le_of_ble_eq_true rfl⟩ hl.1 (Nat.le_of_ble_eq_true rfl) dX1_waysTo_51 ⟨Nat.le_of_ble_eq_true rfl, Nat.le_of_ble_eq_true rfl⟩ rfl) (fun u4 r_ H locs hw hP hD hS hk => ?_)
      obtain ⟨rfl, eu4⟩ := hw
      replace hP : va_P D vwCl [(o, eRM r w I L), ((r 26), eRW ba BI), ((ba 0), aI k 8 bn), ((r 27), eRW aa AI), ((aa 0), aI k 8 an)] H := hP.sub [0, 1, 2, 3, 4] rfl
      replace hD : va_D A [(o, eRM r w I L), ((r 26), eRW ba BI), ((ba 0), aI k 8 bn), ((r 27), eRW aa AI), ((aa 0), aI k 8 an)] := hD.sub [0, 1, 2, 3, 4] (by decide) rfl
      refine lv_aload_n hx hb dX1_waysTo_54 rfl (lv_at hl 0 rfl) ?_
      refine lv_iload_n hx hb dX1_waysTo_55 rfl (lv_at hl 1 rfl) ?_
      refine lv_iconst (v := 1) hx hb dX1_waysTo_56 ci_1 ?_
      refine lv_iadd hx hb dX1_waysTo_57 ?_
      refine lv_iload_n hx hb dX1_waysTo_58 rfl (lv_at hl 2 rfl) ?_
      refine lv_iload_n hx hb dX1_waysTo_59 rfl (lv_at hl 3 rfl) ?_
      refine xc_i (wc := [(o, eRM r w I L), ((r 26), eRW ba BI), ((ba 0), aI k 8 bn), ((r 27), eRW aa AI), ((aa 0), aI k 8 an)]) (wr := []) hP hD hS hA [0, 1, 2, 3, 4] [] rfl rfl rfl (by decide) (xrV ⟨hx, hb, hml, hown, hts⟩ hg (m_X1_waysTo12 l D k _ o r I L w ba BI bn aa AI an (x + 1) y z bm am (xj + 1) yj hbm hb8 ham ha8 (xnadd hxj (show (1 : Int32) = nI 1 from rfl)) hyj hy8 (by omega) (by omega)) hP hD [0, 1, 2, 3, 4] rfl rfl trivial (ci := 0) (q0 := 0) rfl rfl rfl q1069 q1071 qs37 q83 q1072 xo_X1_waysTo ⟨rfl, rfl⟩ ⟨Nat.le_of_ble_eq_true rfl, Nat.le_of_ble_eq_true rfl⟩ hl.1 (Nat.le_of_ble_eq_true rfl) dX1_waysTo_60 ⟨Nat.le_of_ble_eq_true rfl, Nat.le_of_ble_eq_true rfl⟩ rfl) (fun u5 r_ H locs hw hP hD hS hk => ?_)
      obtain ⟨rfl, eu5⟩ := hw
      replace hP : va_P D vwCl [(o, eRM r w I L), ((r 26), eRW ba BI), ((ba 0), aI k 8 bn), ((r 27), eRW aa AI), ((aa 0), aI k 8 an)] H := hP.sub [0, 1, 2, 3, 4] rfl
      replace hD : va_D A [(o, eRM r w I L), ((r 26), eRW ba BI), ((ba 0), aI k 8 bn), ((r 27), eRW aa AI), ((aa 0), aI k 8 an)] := hD.sub [0, 1, 2, 3, 4] (by decide) rfl
      refine lv_iadd hx hb dX1_waysTo_63 ?_
      exact xret_i hx hb hr hlocks (Nat.le_of_ble_eq_true rfl) (Nat.le_of_ble_eq_true rfl) hS.2.2 dX1_waysTo_64 (fun t ht => ⟨⟨(u4 + u5), (u4 + u5), rfl, ⟨rfl, (by subst eu5; subst eu4; subst eu3; exact Eq.symm (Eq.trans (if_neg c1) (Eq.trans (if_pos c2) (rfl))))⟩, by rw [ht]; exact hP, hD⟩, hS.F ht⟩)
    · refine lv_iconst (v := 0) hx hb dX1_waysTo_35 ci_0 ?_
      exact xret_i hx hb hr hlocks (Nat.le_of_ble_eq_true rfl) (Nat.le_of_ble_eq_true rfl) hS.2.2 dX1_waysTo_36 (fun t ht => ⟨⟨0, 0, rfl, ⟨rfl, (by exact Eq.symm (Eq.trans (if_neg c1) (Eq.trans (if_neg c2) (rfl))))⟩, by rw [ht]; exact hP, hD⟩, hS.F ht⟩)
  · refine lv_iload_n hx hb dX1_waysTo_4 rfl (lv_at hl 3 rfl) ?_
    have Jn1 : ∀ (v8 : (Int32)) (H : Heap) (locs : List Loc) (ls : Array Slot), v8 = f_X1_waysTo13_j1 z → (v8 = 0 ∨ v8 = 1) → va_P D vwCl [(o, eRM r w I L), ((r 26), eRW ba BI), ((ba 0), aI k 8 bn), ((r 27), eRW aa AI), ((aa 0), aI k 8 an)] H → va_D A [(o, eRM r w I L), ((r 26), eRW ba BI), ((ba 0), aI k 8 bn), ((r 27), eRW aa AI), ((aa 0), aI k 8 an)] → va_S A s.heap H locs → lv_has ls 4 [(0, .ref o), (1, .int x), (2, .int y), (3, .int z)] → W p l e rm_X1_waysTo13 s m ([.ref o, .int x, .int y, .int z] : List Value).toArray below meth c H locs 0 0 (MQ below (q_X1_waysTo13 D k o r I L w ba BI bn aa AI an x y z bm am xj yj A) ([.ref o, .int x, .int y, .int z] : List Value).toArray s 0 0 A) (F0 m 13 ls [.int v8]) := by
      intro v8 H locs ls ev8 bv8_0 hP hD hS hl
      exact xret_i hx hb hr hlocks (Nat.le_of_ble_eq_true rfl) (Nat.le_of_ble_eq_true rfl) hS.2.2 dX1_waysTo_13 (fun t ht => ⟨⟨v8, v8, rfl, ⟨rfl, (by subst ev8; exact Eq.symm (Eq.trans (if_pos c1) (rfl)))⟩, by rw [ht]; exact hP, hD⟩, hS.F ht⟩)
    refine lv_if_gt (tgt := 12) hx hb dX1_waysTo_5 (by decide) (fun c9 => ?_) (fun c9 => ?_)
    · refine lv_iconst (v := 0) hx hb dX1_waysTo_12 ci_0 ?_
      exact Jn1 0 _ _ _ (by exact Eq.symm (Eq.trans (if_pos c9) (rfl))) (Or.inl rfl) hP hD hS (lv_sub hl [0, 1, 2, 3] rfl)
    · refine lv_iconst (v := 1) hx hb dX1_waysTo_8 ci_1 ?_
      refine lv_goto (tgt := 13) hx hb dX1_waysTo_9 (by decide) ?_
      exact Jn1 1 _ _ _ (by exact Eq.symm (Eq.trans (if_neg c9) (rfl))) (Or.inr rfl) hP hD hS (lv_sub hl [0, 1, 2, 3] rfl)

def f_X1_waysTo14_j1 (z : Int32) : (Int32) :=
  if 0 < z then
    0
  else
    1
def f_X1_waysTo14 (BI : Nat → Int32) (bn : Nat → Int32) (AI : Nat → Int32) (an : Nat → Int32) (x : Int32) (y : Int32) (z : Int32) (bm : Nat) (xj : Nat) : Int32 :=
  if y = 0 then
    let v8 := f_X1_waysTo14_j1 z
    v8
  else
    if y ≤ (((BI 1) + (AI 1)) - x) then
      let u3 := f_X1_numberAt BI bn an x bm xj
      let u4 := f_X1_waysTo13 BI bn AI an (x + 1) (y - 1) (z - u3) bm (xj + 1)
      let u5 := f_X1_waysTo13 BI bn AI an (x + 1) y z bm (xj + 1)
      (u4 + u5)
    else
      0
abbrev q_X1_waysTo14 (D : va_G) (k : KK) (o : Nat) (r : Nat → Nat) (I : Nat → Int32) (L : Nat → Int64) (w : Value) (ba : Nat → Nat) (BI : Nat → Int32) (bn : Nat → Int32) (aa : Nat → Nat) (AI : Nat → Int32) (an : Nat → Int32) (x : Int32) (y : Int32) (z : Int32) (bm : Nat) (am : Nat) (xj : Nat) (yj : Nat) (A : Nat → Prop) : Array Value → State → Outcome → State → Prop := va_Qi (fun (r_ : Int32) (u : Int32) => r_ = u ∧ u = f_X1_waysTo14 BI bn AI an x y z bm xj) (bx D (fun u => [(o, eRM r w I L), ((r 26), eRW ba BI), ((ba 0), aI k 8 bn), ((r 27), eRW aa AI), ((aa 0), aI k 8 an)]) A) A
abbrev rm_X1_waysTo14 : Room := { frames := 17, cells := 0, slots := 0, locals := 680 }
set_option maxHeartbeats 8000000 in
theorem m_X1_waysTo14 (l : Launch) (D : va_G) (k : KK) (sz : Nat) (o : Nat) (r : Nat → Nat) (I : Nat → Int32) (L : Nat → Int64) (w : Value) (ba : Nat → Nat) (BI : Nat → Int32) (bn : Nat → Int32) (aa : Nat → Nat) (AI : Nat → Int32) (an : Nat → Int32) (x : Int32) (y : Int32) (z : Int32) (bm : Nat) (am : Nat) (xj : Nat) (yj : Nat) (hbm : BI 1 = nI bm) (hb8 : bm ≤ 8) (ham : AI 1 = nI am) (ha8 : am ≤ 8) (hxj : x = nI xj) (hyj : y = nI yj) (hy8 : yj ≤ 8) (hxb : xj ≤ bm + am) (hd : bm + am ≤ xj + 14) : Met l yX1_waysTo (ws_ yX1_waysTo cX1_waysTo 4 (some .int)) rm_X1_waysTo14 (pcx D k [.ref o, .int x, .int y, .int z] sz [(o, eRM r w I L), ((r 26), eRW ba BI), ((ba 0), aI k 8 bn), ((r 27), eRW aa AI), ((aa 0), aI k 8 an)] (fun _ => True)) (q_X1_waysTo14 D k o r I L w ba BI bn aa AI an x y z bm am xj yj (va_A [(o, eRM r w I L), ((r 26), eRW ba BI), ((ba 0), aI k 8 bn), ((r 27), eRW aa AI), ((aa 0), aI k 8 an)] sz)) 0 0 (va_A [(o, eRM r w I L), ((r 26), eRW ba BI), ((ba 0), aI k 8 bn), ((r 27), eRW aa AI), ((aa 0), aI k 8 an)] sz) := by
  refine Met.start (Qc := q_X1_waysTo14 D k o r I L w ba BI bn aa AI an x y z bm am xj yj) (by decide) (Nat.le_of_ble_eq_true rfl) ?_
  intro p e s m below meth c A hx hb hr hlocks hml hown hin hts hg hP hD hA hAn hS hY hsz ls hl
  have hown : s.vm.findClass RX1 = some m.cls := hown
  have hl : lv_has ls 4 [(0, .ref o), (1, .int x), (2, .int y), (3, .int z)] := hl
  refine lv_iload_n hx hb dX1_waysTo_0 rfl (lv_at hl 2 rfl) ?_
  refine lv_if_ne (tgt := 14) hx hb dX1_waysTo_1 (by decide) (fun c1 => ?_) (fun c1 => ?_)
  · refine lv_aload_n hx hb dX1_waysTo_14 rfl (lv_at hl 0 rfl) ?_
    refine va_get (D := D) (ci := 0) (v := .ref (r 26)) (C := RX1) (T := TX1) (N := 29) hx hb hts in_X1 hown hg.1 hP 0 rfl rfl 26 (Nat.le_of_ble_eq_true rfl) (hts _ q390) (fun _ h9 => h9) rfl dX1_waysTo_15 ?_
    refine va_get (D := D) (ci := 5) (v := .int (BI 1)) (C := RX6) (T := TX6) (N := 2) hx hb hts in_X6 hown hg.1 hP 1 rfl rfl 1 (Nat.le_of_ble_eq_true rfl) (hts _ q340) (fun _ h9 => h9) rfl dX1_waysTo_18 ?_
    refine lv_aload_n hx hb dX1_waysTo_21 rfl (lv_at hl 0 rfl) ?_
    refine va_get (D := D) (ci := 0) (v := .ref (r 27)) (C := RX1) (T := TX1) (N := 29) hx hb hts in_X1 hown hg.1 hP 0 rfl rfl 27 (Nat.le_of_ble_eq_true rfl) (hts _ q391) (fun _ h9 => h9) rfl dX1_waysTo_22 ?_
    refine va_get (D := D) (ci := 5) (v := .int (AI 1)) (C := RX6) (T := TX6) (N := 2) hx hb hts in_X6 hown hg.1 hP 3 rfl rfl 1 (Nat.le_of_ble_eq_true rfl) (hts _ q340) (fun _ h9 => h9) rfl dX1_waysTo_25 ?_
    refine lv_iadd hx hb dX1_waysTo_28 ?_
    refine lv_iload_n hx hb dX1_waysTo_29 rfl (lv_at hl 1 rfl) ?_
    refine lv_isub hx hb dX1_waysTo_30 ?_
    refine lv_iload_n hx hb dX1_waysTo_31 rfl (lv_at hl 2 rfl) ?_
    refine lv_icmp_ge (tgt := 37) hx hb dX1_waysTo_32 (by decide) (fun c2 => ?_) (fun c2 => ?_)
    · obtain ⟨hy1, hyl⟩ := wt_live hbm hb8 ham ha8 hxj hyj hy8 hxb c1 c2
      refine lv_aload_n hx hb dX1_waysTo_37 rfl (lv_at hl 0 rfl) ?_
      refine lv_iload_n hx hb dX1_waysTo_38 rfl (lv_at hl 1 rfl) ?_
      refine lv_iconst (v := 1) hx hb dX1_waysTo_39 ci_1 ?_
      refine lv_iadd hx hb dX1_waysTo_40 ?_
      refine lv_iload_n hx hb dX1_waysTo_41 rfl (lv_at hl 2 rfl) ?_
      refine lv_iconst (v := 1) hx hb dX1_waysTo_42 ci_1 ?_
      refine lv_isub hx hb dX1_waysTo_43 ?_
      refine lv_iload_n hx hb dX1_waysTo_44 rfl (lv_at hl 3 rfl) ?_
      refine lv_aload_n hx hb dX1_waysTo_45 rfl (lv_at hl 0 rfl) ?_
      refine lv_iload_n hx hb dX1_waysTo_46 rfl (lv_at hl 1 rfl) ?_
      refine xc_i (wc := [(o, eRM r w I L), ((r 26), eRW ba BI), ((ba 0), aI k 8 bn), ((r 27), eRW aa AI), ((aa 0), aI k 8 an)]) (wr := []) hP hD hS hA [0, 1, 2, 3, 4] [] rfl rfl rfl (by decide) (xrV ⟨hx, hb, hml, hown, hts⟩ hg (m_X1_numberAt l D k _ o r I L w ba BI bn aa AI an x bm am xj hbm hb8 ham ha8 hxj (by omega)) hP hD [0, 1, 2, 3, 4] rfl rfl trivial (ci := 0) (q0 := 0) rfl rfl rfl q1073 q1075 qs38 q83 q1076 xo_X1_numberAt ⟨rfl, rfl⟩ ⟨Nat.le_of_ble_eq_true rfl, Nat.le_of_ble_eq_true rfl⟩ hl.1 (Nat.le_of_ble_eq_true rfl) dX1_waysTo_47 ⟨Nat.le_of_ble_eq_true rfl, Nat.le_of_ble_eq_true rfl⟩ rfl) (fun u3 r_ H locs hw hP hD hS hk => ?_)
      obtain ⟨rfl, eu3⟩ := hw
      replace hP : va_P D vwCl [(o, eRM r w I L), ((r 26), eRW ba BI), ((ba 0), aI k 8 bn), ((r 27), eRW aa AI), ((aa 0), aI k 8 an)] H := hP.sub [0, 1, 2, 3, 4] rfl
      replace hD : va_D A [(o, eRM r w I L), ((r 26), eRW ba BI), ((ba 0), aI k 8 bn), ((r 27), eRW aa AI), ((aa 0), aI k 8 an)] := hD.sub [0, 1, 2, 3, 4] (by decide) rfl
      refine lv_isub hx hb dX1_waysTo_50 ?_
      refine xc_i (wc := [(o, eRM r w I L), ((r 26), eRW ba BI), ((ba 0), aI k 8 bn), ((r 27), eRW aa AI), ((aa 0), aI k 8 an)]) (wr := []) hP hD hS hA [0, 1, 2, 3, 4] [] rfl rfl rfl (by decide) (xrV ⟨hx, hb, hml, hown, hts⟩ hg (m_X1_waysTo13 l D k _ o r I L w ba BI bn aa AI an (x + 1) (y - 1) (z - u3) bm am (xj + 1) (yj - 1) hbm hb8 ham ha8 (xnadd hxj (show (1 : Int32) = nI 1 from rfl)) (xnsub hyj (show (1 : Int32) = nI 1 from rfl) (by omega)) (by omega) (by omega) (by omega)) hP hD [0, 1, 2, 3, 4] rfl rfl trivial (ci := 0) (q0 := 0) rfl rfl rfl q1069 q1071 qs37 q83 q1072 xo_X1_waysTo ⟨rfl, rfl⟩ ⟨Nat.le_of_ble_eq_true rfl, Nat.le_of_ble_eq_true rfl⟩ hl.1 (Nat.le_of_ble_eq_true rfl) dX1_waysTo_51 ⟨Nat.le_of_ble_eq_true rfl, Nat.le_of_ble_eq_true rfl⟩ rfl) (fun u4 r_ H locs hw hP hD hS hk => ?_)
      obtain ⟨rfl, eu4⟩ := hw
      replace hP : va_P D vwCl [(o, eRM r w I L), ((r 26), eRW ba BI), ((ba 0), aI k 8 bn), ((r 27), eRW aa AI), ((aa 0), aI k 8 an)] H := hP.sub [0, 1, 2, 3, 4] rfl
      replace hD : va_D A [(o, eRM r w I L), ((r 26), eRW ba BI), ((ba 0), aI k 8 bn), ((r 27), eRW aa AI), ((aa 0), aI k 8 an)] := hD.sub [0, 1, 2, 3, 4] (by decide) rfl
      refine lv_aload_n hx hb dX1_waysTo_54 rfl (lv_at hl 0 rfl) ?_
      refine lv_iload_n hx hb dX1_waysTo_55 rfl (lv_at hl 1 rfl) ?_
      refine lv_iconst (v := 1) hx hb dX1_waysTo_56 ci_1 ?_
      refine lv_iadd hx hb dX1_waysTo_57 ?_
      refine lv_iload_n hx hb dX1_waysTo_58 rfl (lv_at hl 2 rfl) ?_
      refine lv_iload_n hx hb dX1_waysTo_59 rfl (lv_at hl 3 rfl) ?_
      refine xc_i (wc := [(o, eRM r w I L), ((r 26), eRW ba BI), ((ba 0), aI k 8 bn), ((r 27), eRW aa AI), ((aa 0), aI k 8 an)]) (wr := []) hP hD hS hA [0, 1, 2, 3, 4] [] rfl rfl rfl (by decide) (xrV ⟨hx, hb, hml, hown, hts⟩ hg (m_X1_waysTo13 l D k _ o r I L w ba BI bn aa AI an (x + 1) y z bm am (xj + 1) yj hbm hb8 ham ha8 (xnadd hxj (show (1 : Int32) = nI 1 from rfl)) hyj hy8 (by omega) (by omega)) hP hD [0, 1, 2, 3, 4] rfl rfl trivial (ci := 0) (q0 := 0) rfl rfl rfl q1069 q1071 qs37 q83 q1072 xo_X1_waysTo ⟨rfl, rfl⟩ ⟨Nat.le_of_ble_eq_true rfl, Nat.le_of_ble_eq_true rfl⟩ hl.1 (Nat.le_of_ble_eq_true rfl) dX1_waysTo_60 ⟨Nat.le_of_ble_eq_true rfl, Nat.le_of_ble_eq_true rfl⟩ rfl) (fun u5 r_ H locs hw hP hD hS hk => ?_)
      obtain ⟨rfl, eu5⟩ := hw
      replace hP : va_P D vwCl [(o, eRM r w I L), ((r 26), eRW ba BI), ((ba 0), aI k 8 bn), ((r 27), eRW aa AI), ((aa 0), aI k 8 an)] H := hP.sub [0, 1, 2, 3, 4] rfl
      replace hD : va_D A [(o, eRM r w I L), ((r 26), eRW ba BI), ((ba 0), aI k 8 bn), ((r 27), eRW aa AI), ((aa 0), aI k 8 an)] := hD.sub [0, 1, 2, 3, 4] (by decide) rfl
      refine lv_iadd hx hb dX1_waysTo_63 ?_
      exact xret_i hx hb hr hlocks (Nat.le_of_ble_eq_true rfl) (Nat.le_of_ble_eq_true rfl) hS.2.2 dX1_waysTo_64 (fun t ht => ⟨⟨(u4 + u5), (u4 + u5), rfl, ⟨rfl, (by subst eu5; subst eu4; subst eu3; exact Eq.symm (Eq.trans (if_neg c1) (Eq.trans (if_pos c2) (rfl))))⟩, by rw [ht]; exact hP, hD⟩, hS.F ht⟩)
    · refine lv_iconst (v := 0) hx hb dX1_waysTo_35 ci_0 ?_
      exact xret_i hx hb hr hlocks (Nat.le_of_ble_eq_true rfl) (Nat.le_of_ble_eq_true rfl) hS.2.2 dX1_waysTo_36 (fun t ht => ⟨⟨0, 0, rfl, ⟨rfl, (by exact Eq.symm (Eq.trans (if_neg c1) (Eq.trans (if_neg c2) (rfl))))⟩, by rw [ht]; exact hP, hD⟩, hS.F ht⟩)
  · refine lv_iload_n hx hb dX1_waysTo_4 rfl (lv_at hl 3 rfl) ?_
    have Jn1 : ∀ (v8 : (Int32)) (H : Heap) (locs : List Loc) (ls : Array Slot), v8 = f_X1_waysTo14_j1 z → (v8 = 0 ∨ v8 = 1) → va_P D vwCl [(o, eRM r w I L), ((r 26), eRW ba BI), ((ba 0), aI k 8 bn), ((r 27), eRW aa AI), ((aa 0), aI k 8 an)] H → va_D A [(o, eRM r w I L), ((r 26), eRW ba BI), ((ba 0), aI k 8 bn), ((r 27), eRW aa AI), ((aa 0), aI k 8 an)] → va_S A s.heap H locs → lv_has ls 4 [(0, .ref o), (1, .int x), (2, .int y), (3, .int z)] → W p l e rm_X1_waysTo14 s m ([.ref o, .int x, .int y, .int z] : List Value).toArray below meth c H locs 0 0 (MQ below (q_X1_waysTo14 D k o r I L w ba BI bn aa AI an x y z bm am xj yj A) ([.ref o, .int x, .int y, .int z] : List Value).toArray s 0 0 A) (F0 m 13 ls [.int v8]) := by
      intro v8 H locs ls ev8 bv8_0 hP hD hS hl
      exact xret_i hx hb hr hlocks (Nat.le_of_ble_eq_true rfl) (Nat.le_of_ble_eq_true rfl) hS.2.2 dX1_waysTo_13 (fun t ht => ⟨⟨v8, v8, rfl, ⟨rfl, (by subst ev8; exact Eq.symm (Eq.trans (if_pos c1) (rfl)))⟩, by rw [ht]; exact hP, hD⟩, hS.F ht⟩)
    refine lv_if_gt (tgt := 12) hx hb dX1_waysTo_5 (by decide) (fun c9 => ?_) (fun c9 => ?_)
    · refine lv_iconst (v := 0) hx hb dX1_waysTo_12 ci_0 ?_
      exact Jn1 0 _ _ _ (by exact Eq.symm (Eq.trans (if_pos c9) (rfl))) (Or.inl rfl) hP hD hS (lv_sub hl [0, 1, 2, 3] rfl)
    · refine lv_iconst (v := 1) hx hb dX1_waysTo_8 ci_1 ?_
      refine lv_goto (tgt := 13) hx hb dX1_waysTo_9 (by decide) ?_
      exact Jn1 1 _ _ _ (by exact Eq.symm (Eq.trans (if_neg c9) (rfl))) (Or.inr rfl) hP hD hS (lv_sub hl [0, 1, 2, 3] rfl)

def f_X1_waysTo15_j1 (z : Int32) : (Int32) :=
  if 0 < z then
    0
  else
    1
def f_X1_waysTo15 (BI : Nat → Int32) (bn : Nat → Int32) (AI : Nat → Int32) (an : Nat → Int32) (x : Int32) (y : Int32) (z : Int32) (bm : Nat) (xj : Nat) : Int32 :=
  if y = 0 then
    let v8 := f_X1_waysTo15_j1 z
    v8
  else
    if y ≤ (((BI 1) + (AI 1)) - x) then
      let u3 := f_X1_numberAt BI bn an x bm xj
      let u4 := f_X1_waysTo14 BI bn AI an (x + 1) (y - 1) (z - u3) bm (xj + 1)
      let u5 := f_X1_waysTo14 BI bn AI an (x + 1) y z bm (xj + 1)
      (u4 + u5)
    else
      0
abbrev q_X1_waysTo15 (D : va_G) (k : KK) (o : Nat) (r : Nat → Nat) (I : Nat → Int32) (L : Nat → Int64) (w : Value) (ba : Nat → Nat) (BI : Nat → Int32) (bn : Nat → Int32) (aa : Nat → Nat) (AI : Nat → Int32) (an : Nat → Int32) (x : Int32) (y : Int32) (z : Int32) (bm : Nat) (am : Nat) (xj : Nat) (yj : Nat) (A : Nat → Prop) : Array Value → State → Outcome → State → Prop := va_Qi (fun (r_ : Int32) (u : Int32) => r_ = u ∧ u = f_X1_waysTo15 BI bn AI an x y z bm xj) (bx D (fun u => [(o, eRM r w I L), ((r 26), eRW ba BI), ((ba 0), aI k 8 bn), ((r 27), eRW aa AI), ((aa 0), aI k 8 an)]) A) A
abbrev rm_X1_waysTo15 : Room := { frames := 18, cells := 0, slots := 0, locals := 720 }
set_option maxHeartbeats 8000000 in
theorem m_X1_waysTo15 (l : Launch) (D : va_G) (k : KK) (sz : Nat) (o : Nat) (r : Nat → Nat) (I : Nat → Int32) (L : Nat → Int64) (w : Value) (ba : Nat → Nat) (BI : Nat → Int32) (bn : Nat → Int32) (aa : Nat → Nat) (AI : Nat → Int32) (an : Nat → Int32) (x : Int32) (y : Int32) (z : Int32) (bm : Nat) (am : Nat) (xj : Nat) (yj : Nat) (hbm : BI 1 = nI bm) (hb8 : bm ≤ 8) (ham : AI 1 = nI am) (ha8 : am ≤ 8) (hxj : x = nI xj) (hyj : y = nI yj) (hy8 : yj ≤ 8) (hxb : xj ≤ bm + am) (hd : bm + am ≤ xj + 15) : Met l yX1_waysTo (ws_ yX1_waysTo cX1_waysTo 4 (some .int)) rm_X1_waysTo15 (pcx D k [.ref o, .int x, .int y, .int z] sz [(o, eRM r w I L), ((r 26), eRW ba BI), ((ba 0), aI k 8 bn), ((r 27), eRW aa AI), ((aa 0), aI k 8 an)] (fun _ => True)) (q_X1_waysTo15 D k o r I L w ba BI bn aa AI an x y z bm am xj yj (va_A [(o, eRM r w I L), ((r 26), eRW ba BI), ((ba 0), aI k 8 bn), ((r 27), eRW aa AI), ((aa 0), aI k 8 an)] sz)) 0 0 (va_A [(o, eRM r w I L), ((r 26), eRW ba BI), ((ba 0), aI k 8 bn), ((r 27), eRW aa AI), ((aa 0), aI k 8 an)] sz) := by
  refine Met.start (Qc := q_X1_waysTo15 D k o r I L w ba BI bn aa AI an x y z bm am xj yj) (by decide) (Nat.le_of_ble_eq_true rfl) ?_
  intro p e s m below meth c A hx hb hr hlocks hml hown hin hts hg hP hD hA hAn hS hY hsz ls hl
  have hown : s.vm.findClass RX1 = some m.cls := hown
  have hl : lv_has ls 4 [(0, .ref o), (1, .int x), (2, .int y), (3, .int z)] := hl
  refine lv_iload_n hx hb dX1_waysTo_0 rfl (lv_at hl 2 rfl) ?_
  refine lv_if_ne (tgt := 14) hx hb dX1_waysTo_1 (by decide) (fun c1 => ?_) (fun c1 => ?_)
  · refine lv_aload_n hx hb dX1_waysTo_14 rfl (lv_at hl 0 rfl) ?_
    refine va_get (D := D) (ci := 0) (v := .ref (r 26)) (C := RX1) (T := TX1) (N := 29) hx hb hts in_X1 hown hg.1 hP 0 rfl rfl 26 (Nat.le_of_ble_eq_true rfl) (hts _ q390) (fun _ h9 => h9) rfl dX1_waysTo_15 ?_
    refine va_get (D := D) (ci := 5) (v := .int (BI 1)) (C := RX6) (T := TX6) (N := 2) hx hb hts in_X6 hown hg.1 hP 1 rfl rfl 1 (Nat.le_of_ble_eq_true rfl) (hts _ q340) (fun _ h9 => h9) rfl dX1_waysTo_18 ?_
    refine lv_aload_n hx hb dX1_waysTo_21 rfl (lv_at hl 0 rfl) ?_
    refine va_get (D := D) (ci := 0) (v := .ref (r 27)) (C := RX1) (T := TX1) (N := 29) hx hb hts in_X1 hown hg.1 hP 0 rfl rfl 27 (Nat.le_of_ble_eq_true rfl) (hts _ q391) (fun _ h9 => h9) rfl dX1_waysTo_22 ?_
    refine va_get (D := D) (ci := 5) (v := .int (AI 1)) (C := RX6) (T := TX6) (N := 2) hx hb hts in_X6 hown hg.1 hP 3 rfl rfl 1 (Nat.le_of_ble_eq_true rfl) (hts _ q340) (fun _ h9 => h9) rfl dX1_waysTo_25 ?_
    refine lv_iadd hx hb dX1_waysTo_28 ?_
    refine lv_iload_n hx hb dX1_waysTo_29 rfl (lv_at hl 1 rfl) ?_
    refine lv_isub hx hb dX1_waysTo_30 ?_
    refine lv_iload_n hx hb dX1_waysTo_31 rfl (lv_at hl 2 rfl) ?_
    refine lv_icmp_ge (tgt := 37) hx hb dX1_waysTo_32 (by decide) (fun c2 => ?_) (fun c2 => ?_)
    · obtain ⟨hy1, hyl⟩ := wt_live hbm hb8 ham ha8 hxj hyj hy8 hxb c1 c2
      refine lv_aload_n hx hb dX1_waysTo_37 rfl (lv_at hl 0 rfl) ?_
      refine lv_iload_n hx hb dX1_waysTo_38 rfl (lv_at hl 1 rfl) ?_
      refine lv_iconst (v := 1) hx hb dX1_waysTo_39 ci_1 ?_
      refine lv_iadd hx hb dX1_waysTo_40 ?_
      refine lv_iload_n hx hb dX1_waysTo_41 rfl (lv_at hl 2 rfl) ?_
      refine lv_iconst (v := 1) hx hb dX1_waysTo_42 ci_1 ?_
      refine lv_isub hx hb dX1_waysTo_43 ?_
      refine lv_iload_n hx hb dX1_waysTo_44 rfl (lv_at hl 3 rfl) ?_
      refine lv_aload_n hx hb dX1_waysTo_45 rfl (lv_at hl 0 rfl) ?_
      refine lv_iload_n hx hb dX1_waysTo_46 rfl (lv_at hl 1 rfl) ?_
      refine xc_i (wc := [(o, eRM r w I L), ((r 26), eRW ba BI), ((ba 0), aI k 8 bn), ((r 27), eRW aa AI), ((aa 0), aI k 8 an)]) (wr := []) hP hD hS hA [0, 1, 2, 3, 4] [] rfl rfl rfl (by decide) (xrV ⟨hx, hb, hml, hown, hts⟩ hg (m_X1_numberAt l D k _ o r I L w ba BI bn aa AI an x bm am xj hbm hb8 ham ha8 hxj (by omega)) hP hD [0, 1, 2, 3, 4] rfl rfl trivial (ci := 0) (q0 := 0) rfl rfl rfl q1073 q1075 qs38 q83 q1076 xo_X1_numberAt ⟨rfl, rfl⟩ ⟨Nat.le_of_ble_eq_true rfl, Nat.le_of_ble_eq_true rfl⟩ hl.1 (Nat.le_of_ble_eq_true rfl) dX1_waysTo_47 ⟨Nat.le_of_ble_eq_true rfl, Nat.le_of_ble_eq_true rfl⟩ rfl) (fun u3 r_ H locs hw hP hD hS hk => ?_)
      obtain ⟨rfl, eu3⟩ := hw
      replace hP : va_P D vwCl [(o, eRM r w I L), ((r 26), eRW ba BI), ((ba 0), aI k 8 bn), ((r 27), eRW aa AI), ((aa 0), aI k 8 an)] H := hP.sub [0, 1, 2, 3, 4] rfl
      replace hD : va_D A [(o, eRM r w I L), ((r 26), eRW ba BI), ((ba 0), aI k 8 bn), ((r 27), eRW aa AI), ((aa 0), aI k 8 an)] := hD.sub [0, 1, 2, 3, 4] (by decide) rfl
      refine lv_isub hx hb dX1_waysTo_50 ?_
      refine xc_i (wc := [(o, eRM r w I L), ((r 26), eRW ba BI), ((ba 0), aI k 8 bn), ((r 27), eRW aa AI), ((aa 0), aI k 8 an)]) (wr := []) hP hD hS hA [0, 1, 2, 3, 4] [] rfl rfl rfl (by decide) (xrV ⟨hx, hb, hml, hown, hts⟩ hg (m_X1_waysTo14 l D k _ o r I L w ba BI bn aa AI an (x + 1) (y - 1) (z - u3) bm am (xj + 1) (yj - 1) hbm hb8 ham ha8 (xnadd hxj (show (1 : Int32) = nI 1 from rfl)) (xnsub hyj (show (1 : Int32) = nI 1 from rfl) (by omega)) (by omega) (by omega) (by omega)) hP hD [0, 1, 2, 3, 4] rfl rfl trivial (ci := 0) (q0 := 0) rfl rfl rfl q1069 q1071 qs37 q83 q1072 xo_X1_waysTo ⟨rfl, rfl⟩ ⟨Nat.le_of_ble_eq_true rfl, Nat.le_of_ble_eq_true rfl⟩ hl.1 (Nat.le_of_ble_eq_true rfl) dX1_waysTo_51 ⟨Nat.le_of_ble_eq_true rfl, Nat.le_of_ble_eq_true rfl⟩ rfl) (fun u4 r_ H locs hw hP hD hS hk => ?_)
      obtain ⟨rfl, eu4⟩ := hw
      replace hP : va_P D vwCl [(o, eRM r w I L), ((r 26), eRW ba BI), ((ba 0), aI k 8 bn), ((r 27), eRW aa AI), ((aa 0), aI k 8 an)] H := hP.sub [0, 1, 2, 3, 4] rfl
      replace hD : va_D A [(o, eRM r w I L), ((r 26), eRW ba BI), ((ba 0), aI k 8 bn), ((r 27), eRW aa AI), ((aa 0), aI k 8 an)] := hD.sub [0, 1, 2, 3, 4] (by decide) rfl
      refine lv_aload_n hx hb dX1_waysTo_54 rfl (lv_at hl 0 rfl) ?_
      refine lv_iload_n hx hb dX1_waysTo_55 rfl (lv_at hl 1 rfl) ?_
      refine lv_iconst (v := 1) hx hb dX1_waysTo_56 ci_1 ?_
      refine lv_iadd hx hb dX1_waysTo_57 ?_
      refine lv_iload_n hx hb dX1_waysTo_58 rfl (lv_at hl 2 rfl) ?_
      refine lv_iload_n hx hb dX1_waysTo_59 rfl (lv_at hl 3 rfl) ?_
      refine xc_i (wc := [(o, eRM r w I L), ((r 26), eRW ba BI), ((ba 0), aI k 8 bn), ((r 27), eRW aa AI), ((aa 0), aI k 8 an)]) (wr := []) hP hD hS hA [0, 1, 2, 3, 4] [] rfl rfl rfl (by decide) (xrV ⟨hx, hb, hml, hown, hts⟩ hg (m_X1_waysTo14 l D k _ o r I L w ba BI bn aa AI an (x + 1) y z bm am (xj + 1) yj hbm hb8 ham ha8 (xnadd hxj (show (1 : Int32) = nI 1 from rfl)) hyj hy8 (by omega) (by omega)) hP hD [0, 1, 2, 3, 4] rfl rfl trivial (ci := 0) (q0 := 0) rfl rfl rfl q1069 q1071 qs37 q83 q1072 xo_X1_waysTo ⟨rfl, rfl⟩ ⟨Nat.le_of_ble_eq_true rfl, Nat.le_of_ble_eq_true rfl⟩ hl.1 (Nat.le_of_ble_eq_true rfl) dX1_waysTo_60 ⟨Nat.le_of_ble_eq_true rfl, Nat.le_of_ble_eq_true rfl⟩ rfl) (fun u5 r_ H locs hw hP hD hS hk => ?_)
      obtain ⟨rfl, eu5⟩ := hw
      replace hP : va_P D vwCl [(o, eRM r w I L), ((r 26), eRW ba BI), ((ba 0), aI k 8 bn), ((r 27), eRW aa AI), ((aa 0), aI k 8 an)] H := hP.sub [0, 1, 2, 3, 4] rfl
      replace hD : va_D A [(o, eRM r w I L), ((r 26), eRW ba BI), ((ba 0), aI k 8 bn), ((r 27), eRW aa AI), ((aa 0), aI k 8 an)] := hD.sub [0, 1, 2, 3, 4] (by decide) rfl
      refine lv_iadd hx hb dX1_waysTo_63 ?_
      exact xret_i hx hb hr hlocks (Nat.le_of_ble_eq_true rfl) (Nat.le_of_ble_eq_true rfl) hS.2.2 dX1_waysTo_64 (fun t ht => ⟨⟨(u4 + u5), (u4 + u5), rfl, ⟨rfl, (by subst eu5; subst eu4; subst eu3; exact Eq.symm (Eq.trans (if_neg c1) (Eq.trans (if_pos c2) (rfl))))⟩, by rw [ht]; exact hP, hD⟩, hS.F ht⟩)
    · refine lv_iconst (v := 0) hx hb dX1_waysTo_35 ci_0 ?_
      exact xret_i hx hb hr hlocks (Nat.le_of_ble_eq_true rfl) (Nat.le_of_ble_eq_true rfl) hS.2.2 dX1_waysTo_36 (fun t ht => ⟨⟨0, 0, rfl, ⟨rfl, (by exact Eq.symm (Eq.trans (if_neg c1) (Eq.trans (if_neg c2) (rfl))))⟩, by rw [ht]; exact hP, hD⟩, hS.F ht⟩)
  · refine lv_iload_n hx hb dX1_waysTo_4 rfl (lv_at hl 3 rfl) ?_
    have Jn1 : ∀ (v8 : (Int32)) (H : Heap) (locs : List Loc) (ls : Array Slot), v8 = f_X1_waysTo15_j1 z → (v8 = 0 ∨ v8 = 1) → va_P D vwCl [(o, eRM r w I L), ((r 26), eRW ba BI), ((ba 0), aI k 8 bn), ((r 27), eRW aa AI), ((aa 0), aI k 8 an)] H → va_D A [(o, eRM r w I L), ((r 26), eRW ba BI), ((ba 0), aI k 8 bn), ((r 27), eRW aa AI), ((aa 0), aI k 8 an)] → va_S A s.heap H locs → lv_has ls 4 [(0, .ref o), (1, .int x), (2, .int y), (3, .int z)] → W p l e rm_X1_waysTo15 s m ([.ref o, .int x, .int y, .int z] : List Value).toArray below meth c H locs 0 0 (MQ below (q_X1_waysTo15 D k o r I L w ba BI bn aa AI an x y z bm am xj yj A) ([.ref o, .int x, .int y, .int z] : List Value).toArray s 0 0 A) (F0 m 13 ls [.int v8]) := by
      intro v8 H locs ls ev8 bv8_0 hP hD hS hl
      exact xret_i hx hb hr hlocks (Nat.le_of_ble_eq_true rfl) (Nat.le_of_ble_eq_true rfl) hS.2.2 dX1_waysTo_13 (fun t ht => ⟨⟨v8, v8, rfl, ⟨rfl, (by subst ev8; exact Eq.symm (Eq.trans (if_pos c1) (rfl)))⟩, by rw [ht]; exact hP, hD⟩, hS.F ht⟩)
    refine lv_if_gt (tgt := 12) hx hb dX1_waysTo_5 (by decide) (fun c9 => ?_) (fun c9 => ?_)
    · refine lv_iconst (v := 0) hx hb dX1_waysTo_12 ci_0 ?_
      exact Jn1 0 _ _ _ (by exact Eq.symm (Eq.trans (if_pos c9) (rfl))) (Or.inl rfl) hP hD hS (lv_sub hl [0, 1, 2, 3] rfl)
    · refine lv_iconst (v := 1) hx hb dX1_waysTo_8 ci_1 ?_
      refine lv_goto (tgt := 13) hx hb dX1_waysTo_9 (by decide) ?_
      exact Jn1 1 _ _ _ (by exact Eq.symm (Eq.trans (if_neg c9) (rfl))) (Or.inr rfl) hP hD hS (lv_sub hl [0, 1, 2, 3] rfl)

def f_X1_waysTo16_j1 (z : Int32) : (Int32) :=
  if 0 < z then
    0
  else
    1
def f_X1_waysTo16 (BI : Nat → Int32) (bn : Nat → Int32) (AI : Nat → Int32) (an : Nat → Int32) (x : Int32) (y : Int32) (z : Int32) (bm : Nat) (xj : Nat) : Int32 :=
  if y = 0 then
    let v8 := f_X1_waysTo16_j1 z
    v8
  else
    if y ≤ (((BI 1) + (AI 1)) - x) then
      let u3 := f_X1_numberAt BI bn an x bm xj
      let u4 := f_X1_waysTo15 BI bn AI an (x + 1) (y - 1) (z - u3) bm (xj + 1)
      let u5 := f_X1_waysTo15 BI bn AI an (x + 1) y z bm (xj + 1)
      (u4 + u5)
    else
      0
abbrev q_X1_waysTo16 (D : va_G) (k : KK) (o : Nat) (r : Nat → Nat) (I : Nat → Int32) (L : Nat → Int64) (w : Value) (ba : Nat → Nat) (BI : Nat → Int32) (bn : Nat → Int32) (aa : Nat → Nat) (AI : Nat → Int32) (an : Nat → Int32) (x : Int32) (y : Int32) (z : Int32) (bm : Nat) (am : Nat) (xj : Nat) (yj : Nat) (A : Nat → Prop) : Array Value → State → Outcome → State → Prop := va_Qi (fun (r_ : Int32) (u : Int32) => r_ = u ∧ u = f_X1_waysTo16 BI bn AI an x y z bm xj) (bx D (fun u => [(o, eRM r w I L), ((r 26), eRW ba BI), ((ba 0), aI k 8 bn), ((r 27), eRW aa AI), ((aa 0), aI k 8 an)]) A) A
abbrev rm_X1_waysTo16 : Room := { frames := 19, cells := 0, slots := 0, locals := 760 }
set_option maxHeartbeats 8000000 in
theorem m_X1_waysTo16 (l : Launch) (D : va_G) (k : KK) (sz : Nat) (o : Nat) (r : Nat → Nat) (I : Nat → Int32) (L : Nat → Int64) (w : Value) (ba : Nat → Nat) (BI : Nat → Int32) (bn : Nat → Int32) (aa : Nat → Nat) (AI : Nat → Int32) (an : Nat → Int32) (x : Int32) (y : Int32) (z : Int32) (bm : Nat) (am : Nat) (xj : Nat) (yj : Nat) (hbm : BI 1 = nI bm) (hb8 : bm ≤ 8) (ham : AI 1 = nI am) (ha8 : am ≤ 8) (hxj : x = nI xj) (hyj : y = nI yj) (hy8 : yj ≤ 8) (hxb : xj ≤ bm + am) (hd : bm + am ≤ xj + 16) : Met l yX1_waysTo (ws_ yX1_waysTo cX1_waysTo 4 (some .int)) rm_X1_waysTo16 (pcx D k [.ref o, .int x, .int y, .int z] sz [(o, eRM r w I L), ((r 26), eRW ba BI), ((ba 0), aI k 8 bn), ((r 27), eRW aa AI), ((aa 0), aI k 8 an)] (fun _ => True)) (q_X1_waysTo16 D k o r I L w ba BI bn aa AI an x y z bm am xj yj (va_A [(o, eRM r w I L), ((r 26), eRW ba BI), ((ba 0), aI k 8 bn), ((r 27), eRW aa AI), ((aa 0), aI k 8 an)] sz)) 0 0 (va_A [(o, eRM r w I L), ((r 26), eRW ba BI), ((ba 0), aI k 8 bn), ((r 27), eRW aa AI), ((aa 0), aI k 8 an)] sz) := by
  refine Met.start (Qc := q_X1_waysTo16 D k o r I L w ba BI bn aa AI an x y z bm am xj yj) (by decide) (Nat.le_of_ble_eq_true rfl) ?_
  intro p e s m below meth c A hx hb hr hlocks hml hown hin hts hg hP hD hA hAn hS hY hsz ls hl
  have hown : s.vm.findClass RX1 = some m.cls := hown
  have hl : lv_has ls 4 [(0, .ref o), (1, .int x), (2, .int y), (3, .int z)] := hl
  refine lv_iload_n hx hb dX1_waysTo_0 rfl (lv_at hl 2 rfl) ?_
  refine lv_if_ne (tgt := 14) hx hb dX1_waysTo_1 (by decide) (fun c1 => ?_) (fun c1 => ?_)
  · refine lv_aload_n hx hb dX1_waysTo_14 rfl (lv_at hl 0 rfl) ?_
    refine va_get (D := D) (ci := 0) (v := .ref (r 26)) (C := RX1) (T := TX1) (N := 29) hx hb hts in_X1 hown hg.1 hP 0 rfl rfl 26 (Nat.le_of_ble_eq_true rfl) (hts _ q390) (fun _ h9 => h9) rfl dX1_waysTo_15 ?_
    refine va_get (D := D) (ci := 5) (v := .int (BI 1)) (C := RX6) (T := TX6) (N := 2) hx hb hts in_X6 hown hg.1 hP 1 rfl rfl 1 (Nat.le_of_ble_eq_true rfl) (hts _ q340) (fun _ h9 => h9) rfl dX1_waysTo_18 ?_
    refine lv_aload_n hx hb dX1_waysTo_21 rfl (lv_at hl 0 rfl) ?_
    refine va_get (D := D) (ci := 0) (v := .ref (r 27)) (C := RX1) (T := TX1) (N := 29) hx hb hts in_X1 hown hg.1 hP 0 rfl rfl 27 (Nat.le_of_ble_eq_true rfl) (hts _ q391) (fun _ h9 => h9) rfl dX1_waysTo_22 ?_
    refine va_get (D := D) (ci := 5) (v := .int (AI 1)) (C := RX6) (T := TX6) (N := 2) hx hb hts in_X6 hown hg.1 hP 3 rfl rfl 1 (Nat.le_of_ble_eq_true rfl) (hts _ q340) (fun _ h9 => h9) rfl dX1_waysTo_25 ?_
    refine lv_iadd hx hb dX1_waysTo_28 ?_
    refine lv_iload_n hx hb dX1_waysTo_29 rfl (lv_at hl 1 rfl) ?_
    refine lv_isub hx hb dX1_waysTo_30 ?_
    refine lv_iload_n hx hb dX1_waysTo_31 rfl (lv_at hl 2 rfl) ?_
    refine lv_icmp_ge (tgt := 37) hx hb dX1_waysTo_32 (by decide) (fun c2 => ?_) (fun c2 => ?_)
    · obtain ⟨hy1, hyl⟩ := wt_live hbm hb8 ham ha8 hxj hyj hy8 hxb c1 c2
      refine lv_aload_n hx hb dX1_waysTo_37 rfl (lv_at hl 0 rfl) ?_
      refine lv_iload_n hx hb dX1_waysTo_38 rfl (lv_at hl 1 rfl) ?_
      refine lv_iconst (v := 1) hx hb dX1_waysTo_39 ci_1 ?_
      refine lv_iadd hx hb dX1_waysTo_40 ?_
      refine lv_iload_n hx hb dX1_waysTo_41 rfl (lv_at hl 2 rfl) ?_
      refine lv_iconst (v := 1) hx hb dX1_waysTo_42 ci_1 ?_
      refine lv_isub hx hb dX1_waysTo_43 ?_
      refine lv_iload_n hx hb dX1_waysTo_44 rfl (lv_at hl 3 rfl) ?_
      refine lv_aload_n hx hb dX1_waysTo_45 rfl (lv_at hl 0 rfl) ?_
      refine lv_iload_n hx hb dX1_waysTo_46 rfl (lv_at hl 1 rfl) ?_
      refine xc_i (wc := [(o, eRM r w I L), ((r 26), eRW ba BI), ((ba 0), aI k 8 bn), ((r 27), eRW aa AI), ((aa 0), aI k 8 an)]) (wr := []) hP hD hS hA [0, 1, 2, 3, 4] [] rfl rfl rfl (by decide) (xrV ⟨hx, hb, hml, hown, hts⟩ hg (m_X1_numberAt l D k _ o r I L w ba BI bn aa AI an x bm am xj hbm hb8 ham ha8 hxj (by omega)) hP hD [0, 1, 2, 3, 4] rfl rfl trivial (ci := 0) (q0 := 0) rfl rfl rfl q1073 q1075 qs38 q83 q1076 xo_X1_numberAt ⟨rfl, rfl⟩ ⟨Nat.le_of_ble_eq_true rfl, Nat.le_of_ble_eq_true rfl⟩ hl.1 (Nat.le_of_ble_eq_true rfl) dX1_waysTo_47 ⟨Nat.le_of_ble_eq_true rfl, Nat.le_of_ble_eq_true rfl⟩ rfl) (fun u3 r_ H locs hw hP hD hS hk => ?_)
      obtain ⟨rfl, eu3⟩ := hw
      replace hP : va_P D vwCl [(o, eRM r w I L), ((r 26), eRW ba BI), ((ba 0), aI k 8 bn), ((r 27), eRW aa AI), ((aa 0), aI k 8 an)] H := hP.sub [0, 1, 2, 3, 4] rfl
      replace hD : va_D A [(o, eRM r w I L), ((r 26), eRW ba BI), ((ba 0), aI k 8 bn), ((r 27), eRW aa AI), ((aa 0), aI k 8 an)] := hD.sub [0, 1, 2, 3, 4] (by decide) rfl
      refine lv_isub hx hb dX1_waysTo_50 ?_
      refine xc_i (wc := [(o, eRM r w I L), ((r 26), eRW ba BI), ((ba 0), aI k 8 bn), ((r 27), eRW aa AI), ((aa 0), aI k 8 an)]) (wr := []) hP hD hS hA [0, 1, 2, 3, 4] [] rfl rfl rfl (by decide) (xrV ⟨hx, hb, hml, hown, hts⟩ hg (m_X1_waysTo15 l D k _ o r I L w ba BI bn aa AI an (x + 1) (y - 1) (z - u3) bm am (xj + 1) (yj - 1) hbm hb8 ham ha8 (xnadd hxj (show (1 : Int32) = nI 1 from rfl)) (xnsub hyj (show (1 : Int32) = nI 1 from rfl) (by omega)) (by omega) (by omega) (by omega)) hP hD [0, 1, 2, 3, 4] rfl rfl trivial (ci := 0) (q0 := 0) rfl rfl rfl q1069 q1071 qs37 q83 q1072 xo_X1_waysTo ⟨rfl, rfl⟩ ⟨Nat.le_of_ble_eq_true rfl, Nat.le_of_ble_eq_true rfl⟩ hl.1 (Nat.le_of_ble_eq_true rfl) dX1_waysTo_51 ⟨Nat.le_of_ble_eq_true rfl, Nat.le_of_ble_eq_true rfl⟩ rfl) (fun u4 r_ H locs hw hP hD hS hk => ?_)
      obtain ⟨rfl, eu4⟩ := hw
      replace hP : va_P D vwCl [(o, eRM r w I L), ((r 26), eRW ba BI), ((ba 0), aI k 8 bn), ((r 27), eRW aa AI), ((aa 0), aI k 8 an)] H := hP.sub [0, 1, 2, 3, 4] rfl
      replace hD : va_D A [(o, eRM r w I L), ((r 26), eRW ba BI), ((ba 0), aI k 8 bn), ((r 27), eRW aa AI), ((aa 0), aI k 8 an)] := hD.sub [0, 1, 2, 3, 4] (by decide) rfl
      refine lv_aload_n hx hb dX1_waysTo_54 rfl (lv_at hl 0 rfl) ?_
      refine lv_iload_n hx hb dX1_waysTo_55 rfl (lv_at hl 1 rfl) ?_
      refine lv_iconst (v := 1) hx hb dX1_waysTo_56 ci_1 ?_
      refine lv_iadd hx hb dX1_waysTo_57 ?_
      refine lv_iload_n hx hb dX1_waysTo_58 rfl (lv_at hl 2 rfl) ?_
      refine lv_iload_n hx hb dX1_waysTo_59 rfl (lv_at hl 3 rfl) ?_
      refine xc_i (wc := [(o, eRM r w I L), ((r 26), eRW ba BI), ((ba 0), aI k 8 bn), ((r 27), eRW aa AI), ((aa 0), aI k 8 an)]) (wr := []) hP hD hS hA [0, 1, 2, 3, 4] [] rfl rfl rfl (by decide) (xrV ⟨hx, hb, hml, hown, hts⟩ hg (m_X1_waysTo15 l D k _ o r I L w ba BI bn aa AI an (x + 1) y z bm am (xj + 1) yj hbm hb8 ham ha8 (xnadd hxj (show (1 : Int32) = nI 1 from rfl)) hyj hy8 (by omega) (by omega)) hP hD [0, 1, 2, 3, 4] rfl rfl trivial (ci := 0) (q0 := 0) rfl rfl rfl q1069 q1071 qs37 q83 q1072 xo_X1_waysTo ⟨rfl, rfl⟩ ⟨Nat.le_of_ble_eq_true rfl, Nat.le_of_ble_eq_true rfl⟩ hl.1 (Nat.le_of_ble_eq_true rfl) dX1_waysTo_60 ⟨Nat.le_of_ble_eq_true rfl, Nat.le_of_ble_eq_true rfl⟩ rfl) (fun u5 r_ H locs hw hP hD hS hk => ?_)
      obtain ⟨rfl, eu5⟩ := hw
      replace hP : va_P D vwCl [(o, eRM r w I L), ((r 26), eRW ba BI), ((ba 0), aI k 8 bn), ((r 27), eRW aa AI), ((aa 0), aI k 8 an)] H := hP.sub [0, 1, 2, 3, 4] rfl
      replace hD : va_D A [(o, eRM r w I L), ((r 26), eRW ba BI), ((ba 0), aI k 8 bn), ((r 27), eRW aa AI), ((aa 0), aI k 8 an)] := hD.sub [0, 1, 2, 3, 4] (by decide) rfl
      refine lv_iadd hx hb dX1_waysTo_63 ?_
      exact xret_i hx hb hr hlocks (Nat.le_of_ble_eq_true rfl) (Nat.le_of_ble_eq_true rfl) hS.2.2 dX1_waysTo_64 (fun t ht => ⟨⟨(u4 + u5), (u4 + u5), rfl, ⟨rfl, (by subst eu5; subst eu4; subst eu3; exact Eq.symm (Eq.trans (if_neg c1) (Eq.trans (if_pos c2) (rfl))))⟩, by rw [ht]; exact hP, hD⟩, hS.F ht⟩)
    · refine lv_iconst (v := 0) hx hb dX1_waysTo_35 ci_0 ?_
      exact xret_i hx hb hr hlocks (Nat.le_of_ble_eq_true rfl) (Nat.le_of_ble_eq_true rfl) hS.2.2 dX1_waysTo_36 (fun t ht => ⟨⟨0, 0, rfl, ⟨rfl, (by exact Eq.symm (Eq.trans (if_neg c1) (Eq.trans (if_neg c2) (rfl))))⟩, by rw [ht]; exact hP, hD⟩, hS.F ht⟩)
  · refine lv_iload_n hx hb dX1_waysTo_4 rfl (lv_at hl 3 rfl) ?_
    have Jn1 : ∀ (v8 : (Int32)) (H : Heap) (locs : List Loc) (ls : Array Slot), v8 = f_X1_waysTo16_j1 z → (v8 = 0 ∨ v8 = 1) → va_P D vwCl [(o, eRM r w I L), ((r 26), eRW ba BI), ((ba 0), aI k 8 bn), ((r 27), eRW aa AI), ((aa 0), aI k 8 an)] H → va_D A [(o, eRM r w I L), ((r 26), eRW ba BI), ((ba 0), aI k 8 bn), ((r 27), eRW aa AI), ((aa 0), aI k 8 an)] → va_S A s.heap H locs → lv_has ls 4 [(0, .ref o), (1, .int x), (2, .int y), (3, .int z)] → W p l e rm_X1_waysTo16 s m ([.ref o, .int x, .int y, .int z] : List Value).toArray below meth c H locs 0 0 (MQ below (q_X1_waysTo16 D k o r I L w ba BI bn aa AI an x y z bm am xj yj A) ([.ref o, .int x, .int y, .int z] : List Value).toArray s 0 0 A) (F0 m 13 ls [.int v8]) := by
      intro v8 H locs ls ev8 bv8_0 hP hD hS hl
      exact xret_i hx hb hr hlocks (Nat.le_of_ble_eq_true rfl) (Nat.le_of_ble_eq_true rfl) hS.2.2 dX1_waysTo_13 (fun t ht => ⟨⟨v8, v8, rfl, ⟨rfl, (by subst ev8; exact Eq.symm (Eq.trans (if_pos c1) (rfl)))⟩, by rw [ht]; exact hP, hD⟩, hS.F ht⟩)
    refine lv_if_gt (tgt := 12) hx hb dX1_waysTo_5 (by decide) (fun c9 => ?_) (fun c9 => ?_)
    · refine lv_iconst (v := 0) hx hb dX1_waysTo_12 ci_0 ?_
      exact Jn1 0 _ _ _ (by exact Eq.symm (Eq.trans (if_pos c9) (rfl))) (Or.inl rfl) hP hD hS (lv_sub hl [0, 1, 2, 3] rfl)
    · refine lv_iconst (v := 1) hx hb dX1_waysTo_8 ci_1 ?_
      refine lv_goto (tgt := 13) hx hb dX1_waysTo_9 (by decide) ?_
      exact Jn1 1 _ _ _ (by exact Eq.symm (Eq.trans (if_neg c9) (rfl))) (Or.inr rfl) hP hD hS (lv_sub hl [0, 1, 2, 3] rfl)

def f_X1_chance_j1 (BI : Nat → Int32) (bn : Nat → Int32) (AI : Nat → Int32) (an : Nat → Int32) (bm : Nat) (am : Nat) (u1 : Int32 × Int32) (u2 : Int32) : (Int32) × (Int32) :=
  if u2 = 0 then
    let u13 := f_X1_no 5
    (u13.1, u13.2)
  else
    let u14 := f_X6_sum an am
    let u15 := f_X1_waysTo16 BI bn AI an 0 (AI 1) u14 bm 0
    (u15, u1.1)
def f_X1_chance (BI : Nat → Int32) (bn : Nat → Int32) (AI : Nat → Int32) (an : Nat → Int32) (bm : Nat) (am : Nat) : Int32 × Int32 × Int32 :=
  let u1 := f_X1_anew
  let u2 := f_X1_isTry BI AI
  let v11 := f_X1_chance_j1 BI bn AI an bm am u1 u2
  (v11.1, v11.2, u1.2)
abbrev q_X1_chance (D : va_G) (k : KK) (o : Nat) (r : Nat → Nat) (I : Nat → Int32) (L : Nat → Int64) (w : Value) (ba : Nat → Nat) (BI : Nat → Int32) (bn : Nat → Int32) (aa : Nat → Nat) (AI : Nat → Int32) (an : Nat → Int32) (bm : Nat) (am : Nat) (A : Nat → Prop) : Array Value → State → Outcome → State → Prop := va_Qi (fun (r_ : Int32) (u : Int32 × Int32 × Int32) => r_ = u.1 ∧ u = f_X1_chance BI bn AI an bm am) (bx D (fun u => [(o, eRM r w (upd (upd I 4 u.2.1) 6 u.2.2) L), ((r 26), eRW ba BI), ((ba 0), aI k 8 bn), ((r 27), eRW aa AI), ((aa 0), aI k 8 an)]) A) A
abbrev rm_X1_chance : Room := { frames := 20, cells := 0, slots := 0, locals := 800 }
theorem xo_X1_chance : xok yX1_chance 0 := by unfold xok; decide +kernel
set_option maxHeartbeats 8000000 in
theorem m_X1_chance (l : Launch) (D : va_G) (k : KK) (sz : Nat) (o : Nat) (r : Nat → Nat) (I : Nat → Int32) (L : Nat → Int64) (w : Value) (ba : Nat → Nat) (BI : Nat → Int32) (bn : Nat → Int32) (aa : Nat → Nat) (AI : Nat → Int32) (an : Nat → Int32) (bm : Nat) (am : Nat) (hbm : BI 1 = nI bm) (hb8 : bm ≤ 8) (ham : AI 1 = nI am) (ha8 : am ≤ 8) : Met l yX1_chance (ws_ yX1_chance cX1_chance 1 (some .int)) rm_X1_chance (pcx D k [.ref o] sz [(o, eRM r w I L), ((r 26), eRW ba BI), ((ba 0), aI k 8 bn), ((r 27), eRW aa AI), ((aa 0), aI k 8 an)] (fun _ => True)) (q_X1_chance D k o r I L w ba BI bn aa AI an bm am (va_A [(o, eRM r w I L), ((r 26), eRW ba BI), ((ba 0), aI k 8 bn), ((r 27), eRW aa AI), ((aa 0), aI k 8 an)] sz)) 0 0 (va_A [(o, eRM r w I L), ((r 26), eRW ba BI), ((ba 0), aI k 8 bn), ((r 27), eRW aa AI), ((aa 0), aI k 8 an)] sz) := by
  refine Met.start (Qc := q_X1_chance D k o r I L w ba BI bn aa AI an bm am) (by decide) (Nat.le_of_ble_eq_true rfl) ?_
  intro p e s m below meth c A hx hb hr hlocks hml hown hin hts hg hP hD hA hAn hS hY hsz ls hl
  have hown : s.vm.findClass RX1 = some m.cls := hown
  have hl : lv_has ls 1 [(0, .ref o)] := hl
  refine lv_aload_n hx hb dX1_chance_0 rfl (lv_at hl 0 rfl) ?_
  refine xc_v (wc := [(o, eRM r w I L)]) (wr := [((r 26), eRW ba BI), ((ba 0), aI k 8 bn), ((r 27), eRW aa AI), ((aa 0), aI k 8 an)]) hP hD hS hA [0] [1, 2, 3, 4] rfl rfl rfl (by decide) (xrV ⟨hx, hb, hml, hown, hts⟩ hg (m_X1_anew l D k _ o r w I L) hP hD [0] rfl rfl trivial (ci := 0) (q0 := 0) rfl rfl rfl q465 q467 qs2 q83 q468 xo_X1_anew ⟨rfl, rfl⟩ ⟨Nat.le_of_ble_eq_true rfl, Nat.le_of_ble_eq_true rfl⟩ hl.1 (Nat.le_of_ble_eq_true rfl) dX1_chance_1 ⟨Nat.le_of_ble_eq_true rfl, Nat.le_of_ble_eq_true rfl⟩ rfl) (fun u1 H locs hw hP hD hS hk => ?_)
  have eu1 := hw
  replace hP : va_P D vwCl [(o, eRM r w (upd (upd I 4 u1.1) 6 u1.2) L), ((r 26), eRW ba BI), ((ba 0), aI k 8 bn), ((r 27), eRW aa AI), ((aa 0), aI k 8 an)] H := hP.sub [4, 0, 1, 2, 3] rfl
  replace hD : va_D A [(o, eRM r w (upd (upd I 4 u1.1) 6 u1.2) L), ((r 26), eRW ba BI), ((ba 0), aI k 8 bn), ((r 27), eRW aa AI), ((aa 0), aI k 8 an)] := hD.sub [4, 0, 1, 2, 3] (by decide) rfl
  refine lv_aload_n hx hb dX1_chance_4 rfl (lv_at hl 0 rfl) ?_
  refine xc_i (wc := [(o, eRM r w (upd (upd I 4 u1.1) 6 u1.2) L), ((r 26), eRW ba BI), ((ba 0), aI k 8 bn), ((r 27), eRW aa AI), ((aa 0), aI k 8 an)]) (wr := []) hP hD hS hA [0, 1, 2, 3, 4] [] rfl rfl rfl (by decide) (xrV ⟨hx, hb, hml, hown, hts⟩ hg (m_X1_isTry l D k _ o r (upd (upd I 4 u1.1) 6 u1.2) L w ba BI bn aa AI an) hP hD [0, 1, 2, 3, 4] rfl rfl trivial (ci := 0) (q0 := 0) rfl rfl rfl q1061 q1063 qs36 q83 q1064 xo_X1_isTry ⟨rfl, rfl⟩ ⟨Nat.le_of_ble_eq_true rfl, Nat.le_of_ble_eq_true rfl⟩ hl.1 (Nat.le_of_ble_eq_true rfl) dX1_chance_5 ⟨Nat.le_of_ble_eq_true rfl, Nat.le_of_ble_eq_true rfl⟩ rfl) (fun u2 r_ H locs hw hP hD hS hk => ?_)
  obtain ⟨rfl, eu2, bu2⟩ := hw
  replace hP : va_P D vwCl [(o, eRM r w (upd (upd I 4 u1.1) 6 u1.2) L), ((r 26), eRW ba BI), ((ba 0), aI k 8 bn), ((r 27), eRW aa AI), ((aa 0), aI k 8 an)] H := hP.sub [0, 1, 2, 3, 4] rfl
  replace hD : va_D A [(o, eRM r w (upd (upd I 4 u1.1) 6 u1.2) L), ((r 26), eRW ba BI), ((ba 0), aI k 8 bn), ((r 27), eRW aa AI), ((aa 0), aI k 8 an)] := hD.sub [0, 1, 2, 3, 4] (by decide) rfl
  have Jn1 : ∀ (v11 : (Int32) × (Int32)) (H : Heap) (locs : List Loc) (ls : Array Slot), v11 = f_X1_chance_j1 BI bn AI an bm am u1 u2 → va_P D vwCl [(o, eRM r w (upd (upd I 6 u1.2) 4 v11.2) L), ((r 26), eRW ba BI), ((ba 0), aI k 8 bn), ((r 27), eRW aa AI), ((aa 0), aI k 8 an)] H → va_D A [(o, eRM r w (upd (upd I 6 u1.2) 4 v11.2) L), ((r 26), eRW ba BI), ((ba 0), aI k 8 bn), ((r 27), eRW aa AI), ((aa 0), aI k 8 an)] → va_S A s.heap H locs → lv_has ls 1 [(0, .ref o)] → W p l e rm_X1_chance s m ([.ref o] : List Value).toArray below meth c H locs 0 0 (MQ below (q_X1_chance D k o r I L w ba BI bn aa AI an bm am A) ([.ref o] : List Value).toArray s 0 0 A) (F0 m 38 ls [.int v11.1]) := by
    intro v11 H locs ls ev11 hP hD hS hl
    exact xret_i hx hb hr hlocks (Nat.le_of_ble_eq_true rfl) (Nat.le_of_ble_eq_true rfl) hS.2.2 dX1_chance_38 (fun t ht => ⟨⟨v11.1, (v11.1, v11.2, u1.2), rfl, ⟨rfl, (by subst ev11; subst eu2; subst eu1; exact rfl)⟩, by rw [ht]; exact hP, hD⟩, hS.F ht⟩)
  refine lv_if_eq (tgt := 33) hx hb dX1_chance_8 (by decide) (fun c12 => ?_) (fun c12 => ?_)
  · refine lv_aload_n hx hb dX1_chance_33 rfl (lv_at hl 0 rfl) ?_
    refine lv_iconst (v := 5) hx hb dX1_chance_34 ci_5 ?_
    refine xc_i (wc := [(o, eRM r w (upd (upd I 4 u1.1) 6 u1.2) L)]) (wr := [((r 26), eRW ba BI), ((ba 0), aI k 8 bn), ((r 27), eRW aa AI), ((aa 0), aI k 8 an)]) hP hD hS hA [0] [1, 2, 3, 4] rfl rfl rfl (by decide) (xrV ⟨hx, hb, hml, hown, hts⟩ hg (m_X1_no l D k _ o r w (upd (upd I 4 u1.1) 6 u1.2) L 5) hP hD [0] rfl rfl trivial (ci := 0) (q0 := 0) rfl rfl rfl q472 q474 qs3 q83 q475 xo_X1_no ⟨rfl, rfl⟩ ⟨Nat.le_of_ble_eq_true rfl, Nat.le_of_ble_eq_true rfl⟩ hl.1 (Nat.le_of_ble_eq_true rfl) dX1_chance_35 ⟨Nat.le_of_ble_eq_true rfl, Nat.le_of_ble_eq_true rfl⟩ rfl) (fun r_ u13 H locs hw hP hD hS hk => ?_)
    obtain ⟨rfl, eu13⟩ := hw
    replace hP : va_P D vwCl [(o, eRM r w (upd (upd I 6 u1.2) 4 u13.2) L), ((r 26), eRW ba BI), ((ba 0), aI k 8 bn), ((r 27), eRW aa AI), ((aa 0), aI k 8 an)] H := hP.sub [4, 0, 1, 2, 3] rfl
    replace hD : va_D A [(o, eRM r w (upd (upd I 6 u1.2) 4 u13.2) L), ((r 26), eRW ba BI), ((ba 0), aI k 8 bn), ((r 27), eRW aa AI), ((aa 0), aI k 8 an)] := hD.sub [4, 0, 1, 2, 3] (by decide) rfl
    exact Jn1 (u13.1, u13.2) _ _ _ (by subst eu13; exact Eq.symm (Eq.trans (if_pos c12) (rfl))) hP hD hS (lv_sub hl [0] rfl)
  · refine lv_aload_n hx hb dX1_chance_11 rfl (lv_at hl 0 rfl) ?_
    refine lv_iconst (v := 0) hx hb dX1_chance_12 ci_0 ?_
    refine lv_aload_n hx hb dX1_chance_13 rfl (lv_at hl 0 rfl) ?_
    refine va_get (D := D) (ci := 0) (v := .ref (r 27)) (C := RX1) (T := TX1) (N := 29) hx hb hts in_X1 hown hg.1 hP 0 rfl rfl 27 (Nat.le_of_ble_eq_true rfl) (hts _ q391) (fun _ h9 => h9) rfl dX1_chance_14 ?_
    refine va_get (D := D) (ci := 5) (v := .int (AI 1)) (C := RX6) (T := TX6) (N := 2) hx hb hts in_X6 hown hg.1 hP 3 rfl rfl 1 (Nat.le_of_ble_eq_true rfl) (hts _ q340) (fun _ h9 => h9) rfl dX1_chance_17 ?_
    refine lv_aload_n hx hb dX1_chance_20 rfl (lv_at hl 0 rfl) ?_
    refine va_get (D := D) (ci := 0) (v := .ref (r 27)) (C := RX1) (T := TX1) (N := 29) hx hb hts in_X1 hown hg.1 hP 0 rfl rfl 27 (Nat.le_of_ble_eq_true rfl) (hts _ q391) (fun _ h9 => h9) rfl dX1_chance_21 ?_
    refine xc_i (wc := [((r 27), eRW aa AI), ((aa 0), aI k 8 an)]) (wr := [(o, eRM r w (upd (upd I 4 u1.1) 6 u1.2) L), ((r 26), eRW ba BI), ((ba 0), aI k 8 bn)]) hP hD hS hA [3, 4] [0, 1, 2] rfl rfl rfl (by decide) (xrV ⟨hx, hb, hml, hown, hts⟩ hg (m_X6_sum l D k _ (r 27) aa AI an am ham ha8) hP hD [3, 4] rfl rfl trivial (ci := 5) (q0 := 3) rfl rfl rfl q1065 q1066 q1067 q91 q1068 xo_X6_sum ⟨rfl, rfl⟩ ⟨Nat.le_of_ble_eq_true rfl, Nat.le_of_ble_eq_true rfl⟩ hl.1 (Nat.le_of_ble_eq_true rfl) dX1_chance_24 ⟨Nat.le_of_ble_eq_true rfl, Nat.le_of_ble_eq_true rfl⟩ rfl) (fun u14 r_ H locs hw hP hD hS hk => ?_)
    obtain ⟨rfl, eu14⟩ := hw
    replace hP : va_P D vwCl [(o, eRM r w (upd (upd I 4 u1.1) 6 u1.2) L), ((r 26), eRW ba BI), ((ba 0), aI k 8 bn), ((r 27), eRW aa AI), ((aa 0), aI k 8 an)] H := hP.sub [0, 1, 2, 3, 4] rfl
    replace hD : va_D A [(o, eRM r w (upd (upd I 4 u1.1) 6 u1.2) L), ((r 26), eRW ba BI), ((ba 0), aI k 8 bn), ((r 27), eRW aa AI), ((aa 0), aI k 8 an)] := hD.sub [0, 1, 2, 3, 4] (by decide) rfl
    refine xc_i (wc := [(o, eRM r w (upd (upd I 4 u1.1) 6 u1.2) L), ((r 26), eRW ba BI), ((ba 0), aI k 8 bn), ((r 27), eRW aa AI), ((aa 0), aI k 8 an)]) (wr := []) hP hD hS hA [0, 1, 2, 3, 4] [] rfl rfl rfl (by decide) (xrV ⟨hx, hb, hml, hown, hts⟩ hg (m_X1_waysTo16 l D k _ o r (upd (upd I 4 u1.1) 6 u1.2) L w ba BI bn aa AI an 0 (AI 1) u14 bm am 0 am hbm hb8 ham ha8 rfl ham ha8 (by omega) (by omega)) hP hD [0, 1, 2, 3, 4] rfl rfl trivial (ci := 0) (q0 := 0) rfl rfl rfl q1069 q1071 qs37 q83 q1072 xo_X1_waysTo ⟨rfl, rfl⟩ ⟨Nat.le_of_ble_eq_true rfl, Nat.le_of_ble_eq_true rfl⟩ hl.1 (Nat.le_of_ble_eq_true rfl) dX1_chance_27 ⟨Nat.le_of_ble_eq_true rfl, Nat.le_of_ble_eq_true rfl⟩ rfl) (fun u15 r_ H locs hw hP hD hS hk => ?_)
    obtain ⟨rfl, eu15⟩ := hw
    replace hP : va_P D vwCl [(o, eRM r w (upd (upd I 4 u1.1) 6 u1.2) L), ((r 26), eRW ba BI), ((ba 0), aI k 8 bn), ((r 27), eRW aa AI), ((aa 0), aI k 8 an)] H := hP.sub [0, 1, 2, 3, 4] rfl
    replace hD : va_D A [(o, eRM r w (upd (upd I 4 u1.1) 6 u1.2) L), ((r 26), eRW ba BI), ((ba 0), aI k 8 bn), ((r 27), eRW aa AI), ((aa 0), aI k 8 an)] := hD.sub [0, 1, 2, 3, 4] (by decide) rfl
    refine lv_goto (tgt := 38) hx hb dX1_chance_30 (by decide) ?_
    exact Jn1 (u15, u1.1) _ _ _ (by subst eu15; subst eu14; exact Eq.symm (Eq.trans (if_neg c12) (rfl))) hP hD hS (lv_sub hl [0] rfl)

def f_X1_splits_j1 (BI : Nat → Int32) (bn : Nat → Int32) (AI : Nat → Int32) (an : Nat → Int32) (bm : Nat) (u1 : Int32 × Int32) (u2 : Int32) : (Int32) × (Int32) :=
  if u2 = 0 then
    let u11 := f_X1_no 5
    (u11.1, u11.2)
  else
    let u12 := f_X1_waysTo16 BI bn AI an 0 (AI 1) 0 bm 0
    (u12, u1.1)
def f_X1_splits (BI : Nat → Int32) (bn : Nat → Int32) (AI : Nat → Int32) (an : Nat → Int32) (bm : Nat) : Int32 × Int32 × Int32 :=
  let u1 := f_X1_anew
  let u2 := f_X1_isTry BI AI
  let v9 := f_X1_splits_j1 BI bn AI an bm u1 u2
  (v9.1, v9.2, u1.2)
abbrev q_X1_splits (D : va_G) (k : KK) (o : Nat) (r : Nat → Nat) (I : Nat → Int32) (L : Nat → Int64) (w : Value) (ba : Nat → Nat) (BI : Nat → Int32) (bn : Nat → Int32) (aa : Nat → Nat) (AI : Nat → Int32) (an : Nat → Int32) (bm : Nat) (am : Nat) (A : Nat → Prop) : Array Value → State → Outcome → State → Prop := va_Qi (fun (r_ : Int32) (u : Int32 × Int32 × Int32) => r_ = u.1 ∧ u = f_X1_splits BI bn AI an bm) (bx D (fun u => [(o, eRM r w (upd (upd I 4 u.2.1) 6 u.2.2) L), ((r 26), eRW ba BI), ((ba 0), aI k 8 bn), ((r 27), eRW aa AI), ((aa 0), aI k 8 an)]) A) A
abbrev rm_X1_splits : Room := { frames := 20, cells := 0, slots := 0, locals := 800 }
theorem xo_X1_splits : xok yX1_splits 0 := by unfold xok; decide +kernel
set_option maxHeartbeats 8000000 in
theorem m_X1_splits (l : Launch) (D : va_G) (k : KK) (sz : Nat) (o : Nat) (r : Nat → Nat) (I : Nat → Int32) (L : Nat → Int64) (w : Value) (ba : Nat → Nat) (BI : Nat → Int32) (bn : Nat → Int32) (aa : Nat → Nat) (AI : Nat → Int32) (an : Nat → Int32) (bm : Nat) (am : Nat) (hbm : BI 1 = nI bm) (hb8 : bm ≤ 8) (ham : AI 1 = nI am) (ha8 : am ≤ 8) : Met l yX1_splits (ws_ yX1_splits cX1_splits 1 (some .int)) rm_X1_splits (pcx D k [.ref o] sz [(o, eRM r w I L), ((r 26), eRW ba BI), ((ba 0), aI k 8 bn), ((r 27), eRW aa AI), ((aa 0), aI k 8 an)] (fun _ => True)) (q_X1_splits D k o r I L w ba BI bn aa AI an bm am (va_A [(o, eRM r w I L), ((r 26), eRW ba BI), ((ba 0), aI k 8 bn), ((r 27), eRW aa AI), ((aa 0), aI k 8 an)] sz)) 0 0 (va_A [(o, eRM r w I L), ((r 26), eRW ba BI), ((ba 0), aI k 8 bn), ((r 27), eRW aa AI), ((aa 0), aI k 8 an)] sz) := by
  refine Met.start (Qc := q_X1_splits D k o r I L w ba BI bn aa AI an bm am) (by decide) (Nat.le_of_ble_eq_true rfl) ?_
  intro p e s m below meth c A hx hb hr hlocks hml hown hin hts hg hP hD hA hAn hS hY hsz ls hl
  have hown : s.vm.findClass RX1 = some m.cls := hown
  have hl : lv_has ls 1 [(0, .ref o)] := hl
  refine lv_aload_n hx hb dX1_splits_0 rfl (lv_at hl 0 rfl) ?_
  refine xc_v (wc := [(o, eRM r w I L)]) (wr := [((r 26), eRW ba BI), ((ba 0), aI k 8 bn), ((r 27), eRW aa AI), ((aa 0), aI k 8 an)]) hP hD hS hA [0] [1, 2, 3, 4] rfl rfl rfl (by decide) (xrV ⟨hx, hb, hml, hown, hts⟩ hg (m_X1_anew l D k _ o r w I L) hP hD [0] rfl rfl trivial (ci := 0) (q0 := 0) rfl rfl rfl q465 q467 qs2 q83 q468 xo_X1_anew ⟨rfl, rfl⟩ ⟨Nat.le_of_ble_eq_true rfl, Nat.le_of_ble_eq_true rfl⟩ hl.1 (Nat.le_of_ble_eq_true rfl) dX1_splits_1 ⟨Nat.le_of_ble_eq_true rfl, Nat.le_of_ble_eq_true rfl⟩ rfl) (fun u1 H locs hw hP hD hS hk => ?_)
  have eu1 := hw
  replace hP : va_P D vwCl [(o, eRM r w (upd (upd I 4 u1.1) 6 u1.2) L), ((r 26), eRW ba BI), ((ba 0), aI k 8 bn), ((r 27), eRW aa AI), ((aa 0), aI k 8 an)] H := hP.sub [4, 0, 1, 2, 3] rfl
  replace hD : va_D A [(o, eRM r w (upd (upd I 4 u1.1) 6 u1.2) L), ((r 26), eRW ba BI), ((ba 0), aI k 8 bn), ((r 27), eRW aa AI), ((aa 0), aI k 8 an)] := hD.sub [4, 0, 1, 2, 3] (by decide) rfl
  refine lv_aload_n hx hb dX1_splits_4 rfl (lv_at hl 0 rfl) ?_
  refine xc_i (wc := [(o, eRM r w (upd (upd I 4 u1.1) 6 u1.2) L), ((r 26), eRW ba BI), ((ba 0), aI k 8 bn), ((r 27), eRW aa AI), ((aa 0), aI k 8 an)]) (wr := []) hP hD hS hA [0, 1, 2, 3, 4] [] rfl rfl rfl (by decide) (xrV ⟨hx, hb, hml, hown, hts⟩ hg (m_X1_isTry l D k _ o r (upd (upd I 4 u1.1) 6 u1.2) L w ba BI bn aa AI an) hP hD [0, 1, 2, 3, 4] rfl rfl trivial (ci := 0) (q0 := 0) rfl rfl rfl q1061 q1063 qs36 q83 q1064 xo_X1_isTry ⟨rfl, rfl⟩ ⟨Nat.le_of_ble_eq_true rfl, Nat.le_of_ble_eq_true rfl⟩ hl.1 (Nat.le_of_ble_eq_true rfl) dX1_splits_5 ⟨Nat.le_of_ble_eq_true rfl, Nat.le_of_ble_eq_true rfl⟩ rfl) (fun u2 r_ H locs hw hP hD hS hk => ?_)
  obtain ⟨rfl, eu2, bu2⟩ := hw
  replace hP : va_P D vwCl [(o, eRM r w (upd (upd I 4 u1.1) 6 u1.2) L), ((r 26), eRW ba BI), ((ba 0), aI k 8 bn), ((r 27), eRW aa AI), ((aa 0), aI k 8 an)] H := hP.sub [0, 1, 2, 3, 4] rfl
  replace hD : va_D A [(o, eRM r w (upd (upd I 4 u1.1) 6 u1.2) L), ((r 26), eRW ba BI), ((ba 0), aI k 8 bn), ((r 27), eRW aa AI), ((aa 0), aI k 8 an)] := hD.sub [0, 1, 2, 3, 4] (by decide) rfl
  have Jn1 : ∀ (v9 : (Int32) × (Int32)) (H : Heap) (locs : List Loc) (ls : Array Slot), v9 = f_X1_splits_j1 BI bn AI an bm u1 u2 → va_P D vwCl [(o, eRM r w (upd (upd I 6 u1.2) 4 v9.2) L), ((r 26), eRW ba BI), ((ba 0), aI k 8 bn), ((r 27), eRW aa AI), ((aa 0), aI k 8 an)] H → va_D A [(o, eRM r w (upd (upd I 6 u1.2) 4 v9.2) L), ((r 26), eRW ba BI), ((ba 0), aI k 8 bn), ((r 27), eRW aa AI), ((aa 0), aI k 8 an)] → va_S A s.heap H locs → lv_has ls 1 [(0, .ref o)] → W p l e rm_X1_splits s m ([.ref o] : List Value).toArray below meth c H locs 0 0 (MQ below (q_X1_splits D k o r I L w ba BI bn aa AI an bm am A) ([.ref o] : List Value).toArray s 0 0 A) (F0 m 32 ls [.int v9.1]) := by
    intro v9 H locs ls ev9 hP hD hS hl
    exact xret_i hx hb hr hlocks (Nat.le_of_ble_eq_true rfl) (Nat.le_of_ble_eq_true rfl) hS.2.2 dX1_splits_32 (fun t ht => ⟨⟨v9.1, (v9.1, v9.2, u1.2), rfl, ⟨rfl, (by subst ev9; subst eu2; subst eu1; exact rfl)⟩, by rw [ht]; exact hP, hD⟩, hS.F ht⟩)
  refine lv_if_eq (tgt := 27) hx hb dX1_splits_8 (by decide) (fun c10 => ?_) (fun c10 => ?_)
  · refine lv_aload_n hx hb dX1_splits_27 rfl (lv_at hl 0 rfl) ?_
    refine lv_iconst (v := 5) hx hb dX1_splits_28 ci_5 ?_
    refine xc_i (wc := [(o, eRM r w (upd (upd I 4 u1.1) 6 u1.2) L)]) (wr := [((r 26), eRW ba BI), ((ba 0), aI k 8 bn), ((r 27), eRW aa AI), ((aa 0), aI k 8 an)]) hP hD hS hA [0] [1, 2, 3, 4] rfl rfl rfl (by decide) (xrV ⟨hx, hb, hml, hown, hts⟩ hg (m_X1_no l D k _ o r w (upd (upd I 4 u1.1) 6 u1.2) L 5) hP hD [0] rfl rfl trivial (ci := 0) (q0 := 0) rfl rfl rfl q472 q474 qs3 q83 q475 xo_X1_no ⟨rfl, rfl⟩ ⟨Nat.le_of_ble_eq_true rfl, Nat.le_of_ble_eq_true rfl⟩ hl.1 (Nat.le_of_ble_eq_true rfl) dX1_splits_29 ⟨Nat.le_of_ble_eq_true rfl, Nat.le_of_ble_eq_true rfl⟩ rfl) (fun r_ u11 H locs hw hP hD hS hk => ?_)
    obtain ⟨rfl, eu11⟩ := hw
    replace hP : va_P D vwCl [(o, eRM r w (upd (upd I 6 u1.2) 4 u11.2) L), ((r 26), eRW ba BI), ((ba 0), aI k 8 bn), ((r 27), eRW aa AI), ((aa 0), aI k 8 an)] H := hP.sub [4, 0, 1, 2, 3] rfl
    replace hD : va_D A [(o, eRM r w (upd (upd I 6 u1.2) 4 u11.2) L), ((r 26), eRW ba BI), ((ba 0), aI k 8 bn), ((r 27), eRW aa AI), ((aa 0), aI k 8 an)] := hD.sub [4, 0, 1, 2, 3] (by decide) rfl
    exact Jn1 (u11.1, u11.2) _ _ _ (by subst eu11; exact Eq.symm (Eq.trans (if_pos c10) (rfl))) hP hD hS (lv_sub hl [0] rfl)
  · refine lv_aload_n hx hb dX1_splits_11 rfl (lv_at hl 0 rfl) ?_
    refine lv_iconst (v := 0) hx hb dX1_splits_12 ci_0 ?_
    refine lv_aload_n hx hb dX1_splits_13 rfl (lv_at hl 0 rfl) ?_
    refine va_get (D := D) (ci := 0) (v := .ref (r 27)) (C := RX1) (T := TX1) (N := 29) hx hb hts in_X1 hown hg.1 hP 0 rfl rfl 27 (Nat.le_of_ble_eq_true rfl) (hts _ q391) (fun _ h9 => h9) rfl dX1_splits_14 ?_
    refine va_get (D := D) (ci := 5) (v := .int (AI 1)) (C := RX6) (T := TX6) (N := 2) hx hb hts in_X6 hown hg.1 hP 3 rfl rfl 1 (Nat.le_of_ble_eq_true rfl) (hts _ q340) (fun _ h9 => h9) rfl dX1_splits_17 ?_
    refine lv_iconst (v := 0) hx hb dX1_splits_20 ci_0 ?_
    refine xc_i (wc := [(o, eRM r w (upd (upd I 4 u1.1) 6 u1.2) L), ((r 26), eRW ba BI), ((ba 0), aI k 8 bn), ((r 27), eRW aa AI), ((aa 0), aI k 8 an)]) (wr := []) hP hD hS hA [0, 1, 2, 3, 4] [] rfl rfl rfl (by decide) (xrV ⟨hx, hb, hml, hown, hts⟩ hg (m_X1_waysTo16 l D k _ o r (upd (upd I 4 u1.1) 6 u1.2) L w ba BI bn aa AI an 0 (AI 1) 0 bm am 0 am hbm hb8 ham ha8 rfl ham ha8 (by omega) (by omega)) hP hD [0, 1, 2, 3, 4] rfl rfl trivial (ci := 0) (q0 := 0) rfl rfl rfl q1069 q1071 qs37 q83 q1072 xo_X1_waysTo ⟨rfl, rfl⟩ ⟨Nat.le_of_ble_eq_true rfl, Nat.le_of_ble_eq_true rfl⟩ hl.1 (Nat.le_of_ble_eq_true rfl) dX1_splits_21 ⟨Nat.le_of_ble_eq_true rfl, Nat.le_of_ble_eq_true rfl⟩ rfl) (fun u12 r_ H locs hw hP hD hS hk => ?_)
    obtain ⟨rfl, eu12⟩ := hw
    replace hP : va_P D vwCl [(o, eRM r w (upd (upd I 4 u1.1) 6 u1.2) L), ((r 26), eRW ba BI), ((ba 0), aI k 8 bn), ((r 27), eRW aa AI), ((aa 0), aI k 8 an)] H := hP.sub [0, 1, 2, 3, 4] rfl
    replace hD : va_D A [(o, eRM r w (upd (upd I 4 u1.1) 6 u1.2) L), ((r 26), eRW ba BI), ((ba 0), aI k 8 bn), ((r 27), eRW aa AI), ((aa 0), aI k 8 an)] := hD.sub [0, 1, 2, 3, 4] (by decide) rfl
    refine lv_goto (tgt := 32) hx hb dX1_splits_24 (by decide) ?_
    exact Jn1 (u12, u1.1) _ _ _ (by subst eu12; exact Eq.symm (Eq.trans (if_neg c10) (rfl))) hP hD hS (lv_sub hl [0] rfl)
