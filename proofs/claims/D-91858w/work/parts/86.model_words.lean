set_option maxRecDepth 100000
def f_X8_wordOf_l4 (wn : Nat) (wb : Nat → Int32) (i1 : Nat) (X1 : (Int64)) : (Int64) :=
  let u12 := f_J3_length wn
  let u13 := f_J3_charAt i1 wb
  let x14 := ((32 * X1) + (((u13 - 97) + 1).toInt64))
  x14
def f_X8_wordOf (wn : Nat) (wb : Nat → Int32) : Int64 :=
  let X1 := itN (f_X8_wordOf_l4 wn wb) wn 0
  let u11 := f_J3_length wn
  X1
abbrev q_X8_wordOf (D : va_G) (k : KK) (w : Nat) (wv : Nat) (wn : Nat) (wb : Nat → Int32) (A : Nat → Prop) : Array Value → State → Outcome → State → Prop := va_Ql (fun (r_ : Int64) (u : Int64) => r_ = u ∧ u = f_X8_wordOf wn wb) (bx D (fun u => []) A) A
abbrev rm_X8_wordOf : Room := { frames := 5, cells := 0, slots := 0, locals := 200 }
theorem xo_X8_wordOf : xok yX8_wordOf 1 := by unfold xok; decide +kernel
set_option maxHeartbeats 8000000 in
theorem m_X8_wordOf (l : Launch) (D : va_G) (k : KK) (sz : Nat) (w : Nat) (wv : Nat) (wn : Nat) (wb : Nat → Int32) (hz : cz k) (hwb : wn < 2 ^ 31) : Met l yX8_wordOf (ws_ yX8_wordOf cX8_wordOf 4 (some .long)) rm_X8_wordOf (pcx D k [.ref w] sz [] (fun H => oldY k (va_A [] sz) H ∧ sY D k w wv wn wb (va_A [] sz) H)) (q_X8_wordOf D k w wv wn wb (va_A [] sz)) 0 0 (va_A [] sz) := by
  refine Met.start (Qc := q_X8_wordOf D k w wv wn wb) (by decide) (Nat.le_of_ble_eq_true rfl) ?_
  intro p e s m below meth c A hx hb hr hlocks hml hown hin hts hg hP hD hA hAn hS hY hsz ls hl
  have hown : s.vm.findClass RX8 = some m.cls := hown
  have hl : lv_has ls 4 [(0, .ref w)] := hl
  have hO := oldY.mono hY.1 hAn
  have hs0 := sY.mono hY.2 hAn
  refine lv_lconst (v := 0) hx hb dX8_wordOf_0 cl_0 ?_
  refine lv_lstore_n (lv' := [(1, .long 0), (0, .ref w)]) hx hb dX8_wordOf_1 rfl hl (Nat.le_of_ble_eq_true rfl) rfl (fun ls hl => ?_)
  refine lv_iconst (v := 0) hx hb dX8_wordOf_2 ci_0 ?_
  refine lv_istore_n (lv' := [(3, .int 0), (1, .long 0), (0, .ref w)]) hx hb dX8_wordOf_3 rfl hl (Nat.le_of_ble_eq_true rfl) rfl (fun ls hl => ?_)
  have loop1 : ∀ (n1 i1 : Nat) (X1 : (Int64)) (H : Heap) (locs : List Loc) (ls : Array Slot), i1 + n1 = wn → X1 = itN (f_X8_wordOf_l4 wn wb) i1 0 → va_P D vwCl [] H → va_D A [] → va_S A s.heap H locs → lv_has ls 4 [(3, .int (nI i1)), (1, .long X1), (0, .ref w)] → W p l e rm_X8_wordOf s m ([.ref w] : List Value).toArray below meth c H locs 0 0 (MQ below (q_X8_wordOf D k w wv wn wb A) ([.ref w] : List Value).toArray s 0 0 A) (F0 m 4 ls []) := by
    intro n1
    induction n1 with
    | zero =>
      intro i1 X1 H locs ls hn1 eX1 hP hD hS hl
      have hi1 : i1 = wn := by omega
      rw [hi1] at eX1
      refine lv_iload_n hx hb dX8_wordOf_4 rfl (lv_at hl 0 rfl) ?_
      refine lv_aload_n hx hb dX8_wordOf_5 rfl (lv_at hl 2 rfl) ?_
      refine xc_i (wc := []) (wr := []) hP hD hS hA [] [] rfl rfl rfl (by decide) (xrVs ⟨hx, hb, hml, hown, hts⟩ hg (m_J3_length l D k _ w wv wn wb hz) hP hD [] rfl rfl ⟨oldY.call hO hS (va_free (wc := []) hD hS hA [] rfl), (hs0.at hS).mono (va_free (wc := []) hD hS hA [] rfl)⟩ ((hs0.at hS).1.recv hg) q1373 q1374 q1375 q95 q1376 xo_J3_length ⟨rfl, rfl⟩ ⟨Nat.le_of_ble_eq_true rfl, Nat.le_of_ble_eq_true rfl⟩ hl.1 (Nat.le_of_ble_eq_true rfl) dX8_wordOf_6 ⟨Nat.le_of_ble_eq_true rfl, Nat.le_of_ble_eq_true rfl⟩ rfl) (fun u11 r_ H locs hw hP hD hS hk => ?_)
      obtain ⟨rfl, eu11⟩ := hw
      replace hP : va_P D vwCl [] H := hP.sub [] rfl
      replace hD : va_D A [] := hD.sub [] (by decide) rfl
      refine lv_icmp_ge (tgt := 36) hx hb dX8_wordOf_9 (by decide) (fun _ => ?_) (fun c => absurd (xle_t (eu11.trans (len_eq wn)) rfl (by omega) (by omega)) c)
      refine lv_lload_n hx hb dX8_wordOf_36 rfl (lv_at hl 1 rfl) ?_
      exact xret_l hx hb hr hlocks (Nat.le_of_ble_eq_true rfl) (Nat.le_of_ble_eq_true rfl) hS.2.2 dX8_wordOf_37 (fun t ht => ⟨⟨X1, X1, rfl, ⟨rfl, (by subst eu11; subst eX1; exact rfl)⟩, by rw [ht]; exact hP, hD⟩, hS.F ht⟩)
    | succ n1 ih1 =>
      intro i1 X1 H locs ls hn1 eX1 hP hD hS hl
      have hi1 : i1 < wn := by omega
      refine lv_iload_n hx hb dX8_wordOf_4 rfl (lv_at hl 0 rfl) ?_
      refine lv_aload_n hx hb dX8_wordOf_5 rfl (lv_at hl 2 rfl) ?_
      refine xc_i (wc := []) (wr := []) hP hD hS hA [] [] rfl rfl rfl (by decide) (xrVs ⟨hx, hb, hml, hown, hts⟩ hg (m_J3_length l D k _ w wv wn wb hz) hP hD [] rfl rfl ⟨oldY.call hO hS (va_free (wc := []) hD hS hA [] rfl), (hs0.at hS).mono (va_free (wc := []) hD hS hA [] rfl)⟩ ((hs0.at hS).1.recv hg) q1373 q1374 q1375 q95 q1376 xo_J3_length ⟨rfl, rfl⟩ ⟨Nat.le_of_ble_eq_true rfl, Nat.le_of_ble_eq_true rfl⟩ hl.1 (Nat.le_of_ble_eq_true rfl) dX8_wordOf_6 ⟨Nat.le_of_ble_eq_true rfl, Nat.le_of_ble_eq_true rfl⟩ rfl) (fun u12 r_ H locs hw hP hD hS hk => ?_)
      obtain ⟨rfl, eu12⟩ := hw
      replace hP : va_P D vwCl [] H := hP.sub [] rfl
      replace hD : va_D A [] := hD.sub [] (by decide) rfl
      refine lv_icmp_ge (tgt := 36) hx hb dX8_wordOf_9 (by decide) (fun c => absurd c (xle_f (eu12.trans (len_eq wn)) rfl (by omega) (by omega))) (fun _ => ?_)
      refine lv_ldc2 hx hb hown (hts _ q1353) dX8_wordOf_12 ?_
      refine lv_lload_n hx hb dX8_wordOf_15 rfl (lv_at hl 1 rfl) ?_
      refine lv_lmul hx hb dX8_wordOf_16 ?_
      refine lv_aload_n hx hb dX8_wordOf_17 rfl (lv_at hl 2 rfl) ?_
      refine lv_iload_n hx hb dX8_wordOf_18 rfl (lv_at hl 0 rfl) ?_
      refine xc_i (wc := []) (wr := []) hP hD hS hA [] [] rfl rfl rfl (by decide) (xrVs ⟨hx, hb, hml, hown, hts⟩ hg (m_J3_charAt l D k _ (nI i1) i1 w wv wn wb hz rfl (by first | assumption | omega) hwb) hP hD [] rfl rfl ⟨oldY.call hO hS (va_free (wc := []) hD hS hA [] rfl), (hs0.at hS).mono (va_free (wc := []) hD hS hA [] rfl)⟩ ((hs0.at hS).1.recv hg) q1381 q1382 q1383 q95 q1384 xo_J3_charAt ⟨rfl, rfl⟩ ⟨Nat.le_of_ble_eq_true rfl, Nat.le_of_ble_eq_true rfl⟩ hl.1 (Nat.le_of_ble_eq_true rfl) dX8_wordOf_19 ⟨Nat.le_of_ble_eq_true rfl, Nat.le_of_ble_eq_true rfl⟩ rfl) (fun u13 r_ H locs hw hP hD hS hk => ?_)
      obtain ⟨rfl, eu13⟩ := hw
      replace hP : va_P D vwCl [] H := hP.sub [] rfl
      replace hD : va_D A [] := hD.sub [] (by decide) rfl
      refine lv_bipush (v := 97) hx hb dX8_wordOf_22 cb_97 ?_
      refine lv_isub hx hb dX8_wordOf_24 ?_
      refine lv_iconst (v := 1) hx hb dX8_wordOf_25 ci_1 ?_
      refine lv_iadd hx hb dX8_wordOf_26 ?_
      refine lv_i2l hx hb dX8_wordOf_27 rfl ?_
      refine lv_ladd hx hb dX8_wordOf_28 ?_
      refine lv_topl (fun x14 ex14 => ?_)
      refine lv_lstore_n (lv' := [(1, .long x14), (3, .int (nI i1)), (0, .ref w)]) hx hb dX8_wordOf_29 rfl hl (Nat.le_of_ble_eq_true rfl) rfl (fun ls hl => ?_)
      refine lv_iinc (v := (nI (i1 + 1))) (lv' := [(3, .int (nI (i1 + 1))), (1, .long x14), (0, .ref w)]) hx hb dX8_wordOf_30 hl (k := 1) rfl (xinc1 _) (Nat.le_of_ble_eq_true rfl) rfl (fun ls hl => ?_)
      refine lv_goto (tgt := 4) hx hb dX8_wordOf_33 (by decide) ?_
      exact ih1 (i1 + 1) x14 _ _ _ (by omega) (Eq.trans (by subst ex14; subst eu13; subst eu12; exact rfl) (congrArg (f_X8_wordOf_l4 wn wb i1) eX1)) hP hD hS (lv_sub hl [0, 1, 2] rfl)
  exact loop1 wn 0 0 _ _ _ (by omega) rfl hP hD hS (by have h := (lv_sub hl [0, 1, 2] rfl); exact h)

def f_X8_isWord_j1 (I : Nat → Int32) (L : Nat → Int64) (wn : Nat) (wb : Nat → Int32) : (Int32) :=
  if (I 9) = 2 then
    let u9 := f_X8_wordOf wn wb
    if (lg_cmp (L 15) u9) = 0 then
      1
    else
      0
  else
    0
def f_X8_isWord (I : Nat → Int32) (L : Nat → Int64) (wn : Nat) (wb : Nat → Int32) : Int32 :=
  let v7 := f_X8_isWord_j1 I L wn wb
  v7
abbrev q_X8_isWord (D : va_G) (k : KK) (o : Nat) (r : Nat → Nat) (mv : Value) (fr : Value) (I : Nat → Int32) (L : Nat → Int64) (w : Nat) (wv : Nat) (wn : Nat) (wb : Nat → Int32) (A : Nat → Prop) : Array Value → State → Outcome → State → Prop := va_Qi (fun (r_ : Int32) (u : Int32) => r_ = u ∧ u = f_X8_isWord I L wn wb ∧ (r_ = 0 ∨ r_ = 1)) (bx D (fun u => [(o, eMM r mv fr I L)]) A) A
abbrev rm_X8_isWord : Room := { frames := 6, cells := 0, slots := 0, locals := 240 }
theorem xo_X8_isWord : xok yX8_isWord 1 := by unfold xok; decide +kernel
set_option maxHeartbeats 8000000 in
theorem m_X8_isWord (l : Launch) (D : va_G) (k : KK) (sz : Nat) (o : Nat) (r : Nat → Nat) (mv : Value) (fr : Value) (I : Nat → Int32) (L : Nat → Int64) (w : Nat) (wv : Nat) (wn : Nat) (wb : Nat → Int32) (hz : cz k) (hwb : wn < 2 ^ 31) : Met l yX8_isWord (ws_ yX8_isWord cX8_isWord 2 (some .boolean)) rm_X8_isWord (pcx D k [.ref o, .ref w] sz [(o, eMM r mv fr I L)] (fun H => oldY k (va_A [(o, eMM r mv fr I L)] sz) H ∧ sY D k w wv wn wb (va_A [(o, eMM r mv fr I L)] sz) H)) (q_X8_isWord D k o r mv fr I L w wv wn wb (va_A [(o, eMM r mv fr I L)] sz)) 0 0 (va_A [(o, eMM r mv fr I L)] sz) := by
  refine Met.start (Qc := q_X8_isWord D k o r mv fr I L w wv wn wb) (by decide) (Nat.le_of_ble_eq_true rfl) ?_
  intro p e s m below meth c A hx hb hr hlocks hml hown hin hts hg hP hD hA hAn hS hY hsz ls hl
  have hown : s.vm.findClass RX8 = some m.cls := hown
  have hl : lv_has ls 2 [(0, .ref o), (1, .ref w)] := hl
  have hO := oldY.mono hY.1 hAn
  have hs0 := sY.mono hY.2 hAn
  refine lv_aload_n hx hb dX8_isWord_0 rfl (lv_at hl 0 rfl) ?_
  refine va_get (D := D) (ci := 10) (v := .int (I 9)) (C := RX8) (T := TX8) (N := 37) hx hb hts in_X8 hown hg.1 hP 0 rfl rfl 9 (Nat.le_of_ble_eq_true rfl) (hts _ q1150) (fun _ h9 => h9) rfl dX8_isWord_1 ?_
  refine lv_iconst (v := 2) hx hb dX8_isWord_4 ci_2 ?_
  have Jn1 : ∀ (v7 : (Int32)) (H : Heap) (locs : List Loc) (ls : Array Slot), v7 = f_X8_isWord_j1 I L wn wb → (v7 = 0 ∨ v7 = 1) → va_P D vwCl [(o, eMM r mv fr I L)] H → va_D A [(o, eMM r mv fr I L)] → va_S A s.heap H locs → lv_has ls 2 [(0, .ref o), (1, .ref w)] → W p l e rm_X8_isWord s m ([.ref o, .ref w] : List Value).toArray below meth c H locs 0 0 (MQ below (q_X8_isWord D k o r mv fr I L w wv wn wb A) ([.ref o, .ref w] : List Value).toArray s 0 0 A) (F0 m 25 ls [.int v7]) := by
    intro v7 H locs ls ev7 bv7_0 hP hD hS hl
    exact xret_z hx hb hr hlocks (Nat.le_of_ble_eq_true rfl) (Nat.le_of_ble_eq_true rfl) hS.2.2 dX8_isWord_25 bv7_0 (fun t ht => ⟨⟨v7, v7, rfl, ⟨rfl, (by subst ev7; exact rfl), bv7_0⟩, by rw [ht]; exact hP, hD⟩, hS.F ht⟩)
  refine lv_icmp_ne (tgt := 24) hx hb dX8_isWord_5 (by decide) (fun c8 => ?_) (fun c8 => ?_)
  · refine lv_iconst (v := 0) hx hb dX8_isWord_24 ci_0 ?_
    exact Jn1 0 _ _ _ (by exact Eq.symm (Eq.trans (if_neg c8) (rfl))) (Or.inl rfl) hP hD hS (lv_sub hl [0, 1] rfl)
  · refine lv_aload_n hx hb dX8_isWord_8 rfl (lv_at hl 0 rfl) ?_
    refine va_get (D := D) (ci := 10) (v := .long (L 15)) (C := RX8) (T := TX8) (N := 37) hx hb hts in_X8 hown hg.1 hP 0 rfl rfl 15 (Nat.le_of_ble_eq_true rfl) (hts _ q1156) (fun _ h9 => h9) rfl dX8_isWord_9 ?_
    refine lv_aload_n hx hb dX8_isWord_12 rfl (lv_at hl 1 rfl) ?_
    refine xc_l (wc := []) (wr := [(o, eMM r mv fr I L)]) hP hD hS hA [] [0] rfl rfl rfl (by decide) (xrS ⟨hx, hb, hml, hown, hts⟩ hg (m_X8_wordOf l D k _ w wv wn wb hz hwb) hP hD [] rfl rfl ⟨oldY.call hO hS (va_free (wc := []) hD hS hA [] rfl), (hs0.at hS).mono (va_free (wc := []) hD hS hA [] rfl)⟩ q1370 q1371 q93 q1372 xo_X8_wordOf ⟨rfl, rfl⟩ ⟨Nat.le_of_ble_eq_true rfl, Nat.le_of_ble_eq_true rfl⟩ hl.1 (Nat.le_of_ble_eq_true rfl) dX8_isWord_13 ⟨Nat.le_of_ble_eq_true rfl, Nat.le_of_ble_eq_true rfl⟩ rfl) (fun u9 r_ H locs hw hP hD hS hk => ?_)
    obtain ⟨rfl, eu9⟩ := hw
    replace hP : va_P D vwCl [(o, eMM r mv fr I L)] H := hP.sub [0] rfl
    replace hD : va_D A [(o, eMM r mv fr I L)] := hD.sub [0] (by decide) rfl
    refine W.lcmp hx hb dX8_isWord_16 ?_
    refine lv_if_ne (tgt := 24) hx hb dX8_isWord_17 (by decide) (fun c10 => ?_) (fun c10 => ?_)
    · refine lv_iconst (v := 0) hx hb dX8_isWord_24 ci_0 ?_
      exact Jn1 0 _ _ _ (by subst eu9; exact Eq.symm (Eq.trans (if_pos c8) (Eq.trans (if_neg c10) (rfl)))) (Or.inl rfl) hP hD hS (lv_sub hl [0, 1] rfl)
    · refine lv_iconst (v := 1) hx hb dX8_isWord_20 ci_1 ?_
      refine lv_goto (tgt := 25) hx hb dX8_isWord_21 (by decide) ?_
      exact Jn1 1 _ _ _ (by subst eu9; exact Eq.symm (Eq.trans (if_pos c8) (Eq.trans (if_pos c10) (rfl)))) (Or.inr rfl) hP hD hS (lv_sub hl [0, 1] rfl)

def f_X8_needWord_j1 (I : Nat → Int32) (u1 : Int32) : (Int32) × (Int32) × (Int32) :=
  if u1 = 0 then
    let u9 := f_X8_wrong I 1
    (u9.1, u9.2.1, u9.2.2)
  else
    ((I 9), (I 13), (I 14))
def f_X8_needWord (I : Nat → Int32) (L : Nat → Int64) (tp : Nat → Int32) (zj : Nat) (wn : Nat) (wb : Nat → Int32) : Int32 × Int32 × Int32 × Int32 × Int32 × Int32 × Int32 × Int64 :=
  let u1 := f_X8_isWord I L wn wb
  let v6 := f_X8_needWord_j1 I u1
  let u7 := f_X8_next (upd (upd (upd I 9 v6.1) 13 v6.2.1) 14 v6.2.2) L tp zj
  (u7.1, u7.2.1, u7.2.2.1, u7.2.2.2.1, u7.2.2.2.2.1, v6.2.1, v6.2.2, u7.2.2.2.2.2)
abbrev q_X8_needWord (D : va_G) (k : KK) (o : Nat) (r : Nat → Nat) (mv : Value) (fr : Value) (I : Nat → Int32) (L : Nat → Int64) (tp : Nat → Int32) (zj : Nat) (w : Nat) (wv : Nat) (wn : Nat) (wb : Nat → Int32) (A : Nat → Prop) : Array Value → State → Outcome → State → Prop := va_Qv (fun (u : Int32 × Int32 × Int32 × Int32 × Int32 × Int32 × Int32 × Int64) => u = f_X8_needWord I L tp zj wn wb ∧ atz zj u.1) (bx D (fun u => [(o, eMM r mv fr (upd (upd (upd (upd (upd (upd (upd I 8 u.1) 9 u.2.1) 10 u.2.2.1) 11 u.2.2.2.1) 12 u.2.2.2.2.1) 13 u.2.2.2.2.2.1) 14 u.2.2.2.2.2.2.1) (vp_updL L 15 u.2.2.2.2.2.2.2)), ((r 5), aB k 700 tp)]) A) A
abbrev rm_X8_needWord : Room := { frames := 7, cells := 0, slots := 0, locals := 280 }
theorem xo_X8_needWord : xok yX8_needWord 1 := by unfold xok; decide +kernel
set_option maxHeartbeats 8000000 in
theorem m_X8_needWord (l : Launch) (D : va_G) (k : KK) (sz : Nat) (o : Nat) (r : Nat → Nat) (mv : Value) (fr : Value) (I : Nat → Int32) (L : Nat → Int64) (tp : Nat → Int32) (zj : Nat) (w : Nat) (wv : Nat) (wn : Nat) (wb : Nat → Int32) (hz : cz k) (hzj : I 7 = nI zj) (hz7 : zj ≤ 700) (hat : atz zj (I 8)) (hwb : wn < 2 ^ 31) : Met l yX8_needWord (ws_ yX8_needWord cX8_needWord 2 none) rm_X8_needWord (pcx D k [.ref o, .ref w] sz [(o, eMM r mv fr I L), ((r 5), aB k 700 tp)] (fun H => oldY k (va_A [(o, eMM r mv fr I L), ((r 5), aB k 700 tp)] sz) H ∧ sY D k w wv wn wb (va_A [(o, eMM r mv fr I L), ((r 5), aB k 700 tp)] sz) H)) (q_X8_needWord D k o r mv fr I L tp zj w wv wn wb (va_A [(o, eMM r mv fr I L), ((r 5), aB k 700 tp)] sz)) 0 0 (va_A [(o, eMM r mv fr I L), ((r 5), aB k 700 tp)] sz) := by
  refine Met.start (Qc := q_X8_needWord D k o r mv fr I L tp zj w wv wn wb) (by decide) (Nat.le_of_ble_eq_true rfl) ?_
  intro p e s m below meth c A hx hb hr hlocks hml hown hin hts hg hP hD hA hAn hS hY hsz ls hl
  have hown : s.vm.findClass RX8 = some m.cls := hown
  have hl : lv_has ls 2 [(0, .ref o), (1, .ref w)] := hl
  have hO := oldY.mono hY.1 hAn
  have hs0 := sY.mono hY.2 hAn
  refine lv_aload_n hx hb dX8_needWord_0 rfl (lv_at hl 0 rfl) ?_
  refine lv_aload_n hx hb dX8_needWord_1 rfl (lv_at hl 1 rfl) ?_
  refine xc_i (wc := [(o, eMM r mv fr I L)]) (wr := [((r 5), aB k 700 tp)]) hP hD hS hA [0] [1] rfl rfl rfl (by decide) (xrV ⟨hx, hb, hml, hown, hts⟩ hg (m_X8_isWord l D k _ o r mv fr I L w wv wn wb hz hwb) hP hD [0] rfl rfl ⟨oldY.call hO hS (va_free (wc := [(o, eMM r mv fr I L)]) hD hS hA [0] rfl), (hs0.at hS).mono (va_free (wc := [(o, eMM r mv fr I L)]) hD hS hA [0] rfl)⟩ (ci := 10) (q0 := 0) rfl rfl rfl q1366 q1368 qs44 q93 q1369 xo_X8_isWord ⟨rfl, rfl⟩ ⟨Nat.le_of_ble_eq_true rfl, Nat.le_of_ble_eq_true rfl⟩ hl.1 (Nat.le_of_ble_eq_true rfl) dX8_needWord_2 ⟨Nat.le_of_ble_eq_true rfl, Nat.le_of_ble_eq_true rfl⟩ rfl) (fun u1 r_ H locs hw hP hD hS hk => ?_)
  obtain ⟨rfl, eu1, bu1⟩ := hw
  replace hP : va_P D vwCl [(o, eMM r mv fr I L), ((r 5), aB k 700 tp)] H := hP.sub [1, 0] rfl
  replace hD : va_D A [(o, eMM r mv fr I L), ((r 5), aB k 700 tp)] := hD.sub [1, 0] (by decide) rfl
  have Jn1 : ∀ (v6 : (Int32) × (Int32) × (Int32)) (H : Heap) (locs : List Loc) (ls : Array Slot), v6 = f_X8_needWord_j1 I u1 → va_P D vwCl [(o, eMM r mv fr (upd (upd (upd I 9 v6.1) 13 v6.2.1) 14 v6.2.2) L), ((r 5), aB k 700 tp)] H → va_D A [(o, eMM r mv fr (upd (upd (upd I 9 v6.1) 13 v6.2.1) 14 v6.2.2) L), ((r 5), aB k 700 tp)] → va_S A s.heap H locs → lv_has ls 2 [(0, .ref o), (1, .ref w)] → W p l e rm_X8_needWord s m ([.ref o, .ref w] : List Value).toArray below meth c H locs 0 0 (MQ below (q_X8_needWord D k o r mv fr I L tp zj w wv wn wb A) ([.ref o, .ref w] : List Value).toArray s 0 0 A) (F0 m 13 ls []) := by
    intro v6 H locs ls ev6 hP hD hS hl
    refine lv_aload_n hx hb dX8_needWord_13 rfl (lv_at hl 0 rfl) ?_
    refine xc_v (wc := [(o, eMM r mv fr (upd (upd (upd I 9 v6.1) 13 v6.2.1) 14 v6.2.2) L), ((r 5), aB k 700 tp)]) (wr := []) hP hD hS hA [0, 1] [] rfl rfl rfl (by decide) (xrV ⟨hx, hb, hml, hown, hts⟩ hg (m_X8_next l D k _ o r mv fr (upd (upd (upd I 9 v6.1) 13 v6.2.1) 14 v6.2.2) L tp zj hzj hz7 hat) hP hD [0, 1] rfl rfl trivial (ci := 10) (q0 := 0) rfl rfl rfl q1342 q1344 qs40 q93 q1345 xo_X8_next ⟨rfl, rfl⟩ ⟨Nat.le_of_ble_eq_true rfl, Nat.le_of_ble_eq_true rfl⟩ hl.1 (Nat.le_of_ble_eq_true rfl) dX8_needWord_14 ⟨Nat.le_of_ble_eq_true rfl, Nat.le_of_ble_eq_true rfl⟩ rfl) (fun u7 H locs hw hP hD hS hk => ?_)
    have eu7 := hw
    have pu7_at : atz zj u7.1 := by rw [eu7]; exact nx_at hzj hz7 hat
    replace hP : va_P D vwCl [(o, eMM r mv fr (upd (upd (upd (upd (upd (upd (upd I 13 v6.2.1) 14 v6.2.2) 8 u7.1) 9 u7.2.1) 10 u7.2.2.1) 11 u7.2.2.2.1) 12 u7.2.2.2.2.1) (vp_updL L 15 u7.2.2.2.2.2)), ((r 5), aB k 700 tp)] H := hP.sub [0, 1] rfl
    replace hD : va_D A [(o, eMM r mv fr (upd (upd (upd (upd (upd (upd (upd I 13 v6.2.1) 14 v6.2.2) 8 u7.1) 9 u7.2.1) 10 u7.2.2.1) 11 u7.2.2.2.1) 12 u7.2.2.2.2.1) (vp_updL L 15 u7.2.2.2.2.2)), ((r 5), aB k 700 tp)] := hD.sub [0, 1] (by decide) rfl
    exact xret_v hx hb hr hlocks (Nat.le_of_ble_eq_true rfl) (Nat.le_of_ble_eq_true rfl) hS.2.2 dX8_needWord_17 (fun t ht => ⟨⟨(u7.1, u7.2.1, u7.2.2.1, u7.2.2.2.1, u7.2.2.2.2.1, v6.2.1, v6.2.2, u7.2.2.2.2.2), rfl, ⟨(by subst eu7; subst ev6; subst eu1; exact rfl), pu7_at⟩, by rw [ht]; exact hP, hD⟩, hS.F ht⟩)
  refine lv_if_ne (tgt := 13) hx hb dX8_needWord_5 (by decide) (fun c8 => ?_) (fun c8 => ?_)
  · exact Jn1 ((I 9), (I 13), (I 14)) _ _ _ (by exact Eq.symm (Eq.trans (if_neg c8) (rfl))) hP hD hS (lv_sub hl [0, 1] rfl)
  · refine lv_aload_n hx hb dX8_needWord_8 rfl (lv_at hl 0 rfl) ?_
    refine lv_iconst (v := 1) hx hb dX8_needWord_9 ci_1 ?_
    refine xc_v (wc := [(o, eMM r mv fr I L)]) (wr := [((r 5), aB k 700 tp)]) hP hD hS hA [0] [1] rfl rfl rfl (by decide) (xrV ⟨hx, hb, hml, hown, hts⟩ hg (m_X8_wrong l D k _ o r mv fr I L 1) hP hD [0] rfl rfl trivial (ci := 10) (q0 := 0) rfl rfl rfl q1409 q1411 qs47 q93 q1412 xo_X8_wrong ⟨rfl, rfl⟩ ⟨Nat.le_of_ble_eq_true rfl, Nat.le_of_ble_eq_true rfl⟩ hl.1 (Nat.le_of_ble_eq_true rfl) dX8_needWord_10 ⟨Nat.le_of_ble_eq_true rfl, Nat.le_of_ble_eq_true rfl⟩ rfl) (fun u9 H locs hw hP hD hS hk => ?_)
    have eu9 := hw
    replace hP : va_P D vwCl [(o, eMM r mv fr (upd (upd (upd I 9 u9.1) 13 u9.2.1) 14 u9.2.2) L), ((r 5), aB k 700 tp)] H := hP.sub [1, 0] rfl
    replace hD : va_D A [(o, eMM r mv fr (upd (upd (upd I 9 u9.1) 13 u9.2.1) 14 u9.2.2) L), ((r 5), aB k 700 tp)] := hD.sub [1, 0] (by decide) rfl
    exact Jn1 (u9.1, u9.2.1, u9.2.2) _ _ _ (by subst eu9; exact Eq.symm (Eq.trans (if_pos c8) (rfl))) hP hD hS (lv_sub hl [0, 1] rfl)

def f_X8_isName_j1 (I : Nat → Int32) (L : Nat → Int64) : (Int32) :=
  if (I 9) = 2 then
    let u33 := f_X8_isWord I L (scN 0) (scF 0)
    if u33 = 0 then
      let u35 := f_X8_isWord I L (scN 1) (scF 1)
      if u35 = 0 then
        let u37 := f_X8_isWord I L (scN 2) (scF 2)
        if u37 = 0 then
          let u39 := f_X8_isWord I L (scN 3) (scF 3)
          if u39 = 0 then
            let u41 := f_X8_isWord I L (scN 4) (scF 4)
            if u41 = 0 then
              let u43 := f_X8_isWord I L (scN 5) (scF 5)
              if u43 = 0 then
                let u45 := f_X8_isWord I L (scN 6) (scF 6)
                if u45 = 0 then
                  1
                else
                  0
              else
                0
            else
              0
          else
            0
        else
          0
      else
        0
    else
      0
  else
    0
def f_X8_isName (I : Nat → Int32) (L : Nat → Int64) : Int32 :=
  let v31 := f_X8_isName_j1 I L
  v31
abbrev q_X8_isName (D : va_G) (k : KK) (o : Nat) (r : Nat → Nat) (mv : Value) (fr : Value) (I : Nat → Int32) (L : Nat → Int64) (A : Nat → Prop) : Array Value → State → Outcome → State → Prop := va_Qi (fun (r_ : Int32) (u : Int32) => r_ = u ∧ u = f_X8_isName I L ∧ (r_ = 0 ∨ r_ = 1)) (bx D (fun u => [(o, eMM r mv fr I L)]) A) A
abbrev rm_X8_isName : Room := { frames := 7, cells := 0, slots := 0, locals := 280 }
theorem xo_X8_isName : xok yX8_isName 0 := by unfold xok; decide +kernel
set_option maxHeartbeats 8000000 in
theorem m_X8_isName (l : Launch) (D : va_G) (k : KK) (sz : Nat) (o : Nat) (r : Nat → Nat) (mv : Value) (fr : Value) (I : Nat → Int32) (L : Nat → Int64) (hz : cz k) : Met l yX8_isName (ws_ yX8_isName cX8_isName 1 (some .boolean)) rm_X8_isName (pcx D k [.ref o] sz [(o, eMM r mv fr I L)] (fun H => oldY k (va_A [(o, eMM r mv fr I L)] sz) H)) (q_X8_isName D k o r mv fr I L (va_A [(o, eMM r mv fr I L)] sz)) 0 0 (va_A [(o, eMM r mv fr I L)] sz) := by
  refine Met.start (Qc := q_X8_isName D k o r mv fr I L) (by decide) (Nat.le_of_ble_eq_true rfl) ?_
  intro p e s m below meth c A hx hb hr hlocks hml hown hin hts hg hP hD hA hAn hS hY hsz ls hl
  have hown : s.vm.findClass RX8 = some m.cls := hown
  have hl : lv_has ls 1 [(0, .ref o)] := hl
  have hO := oldY.mono hY hAn
  refine lv_aload_n hx hb dX8_isName_0 rfl (lv_at hl 0 rfl) ?_
  refine va_get (D := D) (ci := 10) (v := .int (I 9)) (C := RX8) (T := TX8) (N := 37) hx hb hts in_X8 hown hg.1 hP 0 rfl rfl 9 (Nat.le_of_ble_eq_true rfl) (hts _ q1150) (fun _ h9 => h9) rfl dX8_isName_1 ?_
  refine lv_iconst (v := 2) hx hb dX8_isName_4 ci_2 ?_
  have Jn1 : ∀ (v31 : (Int32)) (H : Heap) (locs : List Loc) (ls : Array Slot), v31 = f_X8_isName_j1 I L → (v31 = 0 ∨ v31 = 1) → va_P D vwCl [(o, eMM r mv fr I L)] H → va_D A [(o, eMM r mv fr I L)] → va_S A s.heap H locs → lv_has ls 1 [(0, .ref o)] → W p l e rm_X8_isName s m ([.ref o] : List Value).toArray below meth c H locs 0 0 (MQ below (q_X8_isName D k o r mv fr I L A) ([.ref o] : List Value).toArray s 0 0 A) (F0 m 76 ls [.int v31]) := by
    intro v31 H locs ls ev31 bv31_0 hP hD hS hl
    exact xret_z hx hb hr hlocks (Nat.le_of_ble_eq_true rfl) (Nat.le_of_ble_eq_true rfl) hS.2.2 dX8_isName_76 bv31_0 (fun t ht => ⟨⟨v31, v31, rfl, ⟨rfl, (by subst ev31; exact rfl), bv31_0⟩, by rw [ht]; exact hP, hD⟩, hS.F ht⟩)
  refine lv_icmp_ne (tgt := 75) hx hb dX8_isName_5 (by decide) (fun c32 => ?_) (fun c32 => ?_)
  · refine lv_iconst (v := 0) hx hb dX8_isName_75 ci_0 ?_
    exact Jn1 0 _ _ _ (by exact Eq.symm (Eq.trans (if_neg c32) (rfl))) (Or.inl rfl) hP hD hS (lv_sub hl [0] rfl)
  · refine lv_aload_n hx hb dX8_isName_8 rfl (lv_at hl 0 rfl) ?_
    refine xs_ldc hx hb hz hg hown (tx := "drum") (i := 0) (List.mem_of_getElem? (i := 17) rfl) dX8_isName_9 ?_
    refine xc_i (wc := [(o, eMM r mv fr I L)]) (wr := []) hP hD hS hA [0] [] rfl rfl rfl (by decide) (xrV ⟨hx, hb, hml, hown, hts⟩ hg (m_X8_isWord l D k _ o r mv fr I L (k.1 (100 + 0)) (k.1 (200 + 0)) (scN 0) (scF 0) hz (by decide)) hP hD [0] rfl rfl ⟨oldY.call hO hS (va_free (wc := [(o, eMM r mv fr I L)]) hD hS hA [0] rfl), (sY.ofcz (hz.1 0 (by decide)) hg (hO.at hS)).mono (va_free (wc := [(o, eMM r mv fr I L)]) hD hS hA [0] rfl)⟩ (ci := 10) (q0 := 0) rfl rfl rfl q1366 q1368 qs44 q93 q1369 xo_X8_isWord ⟨rfl, rfl⟩ ⟨Nat.le_of_ble_eq_true rfl, Nat.le_of_ble_eq_true rfl⟩ hl.1 (Nat.le_of_ble_eq_true rfl) dX8_isName_11 ⟨Nat.le_of_ble_eq_true rfl, Nat.le_of_ble_eq_true rfl⟩ rfl) (fun u33 r_ H locs hw hP hD hS hk => ?_)
    obtain ⟨rfl, eu33, bu33⟩ := hw
    replace hP : va_P D vwCl [(o, eMM r mv fr I L)] H := hP.sub [0] rfl
    replace hD : va_D A [(o, eMM r mv fr I L)] := hD.sub [0] (by decide) rfl
    refine lv_if_ne (tgt := 75) hx hb dX8_isName_14 (by decide) (fun c34 => ?_) (fun c34 => ?_)
    · refine lv_iconst (v := 0) hx hb dX8_isName_75 ci_0 ?_
      exact Jn1 0 _ _ _ (by subst eu33; exact Eq.symm (Eq.trans (if_pos c32) (Eq.trans (if_neg c34) (rfl)))) (Or.inl rfl) hP hD hS (lv_sub hl [0] rfl)
    · refine lv_aload_n hx hb dX8_isName_17 rfl (lv_at hl 0 rfl) ?_
      refine xs_ldc hx hb hz hg hown (tx := "sieve") (i := 1) (List.mem_of_getElem? (i := 20) rfl) dX8_isName_18 ?_
      refine xc_i (wc := [(o, eMM r mv fr I L)]) (wr := []) hP hD hS hA [0] [] rfl rfl rfl (by decide) (xrV ⟨hx, hb, hml, hown, hts⟩ hg (m_X8_isWord l D k _ o r mv fr I L (k.1 (100 + 1)) (k.1 (200 + 1)) (scN 1) (scF 1) hz (by decide)) hP hD [0] rfl rfl ⟨oldY.call hO hS (va_free (wc := [(o, eMM r mv fr I L)]) hD hS hA [0] rfl), (sY.ofcz (hz.1 1 (by decide)) hg (hO.at hS)).mono (va_free (wc := [(o, eMM r mv fr I L)]) hD hS hA [0] rfl)⟩ (ci := 10) (q0 := 0) rfl rfl rfl q1366 q1368 qs44 q93 q1369 xo_X8_isWord ⟨rfl, rfl⟩ ⟨Nat.le_of_ble_eq_true rfl, Nat.le_of_ble_eq_true rfl⟩ hl.1 (Nat.le_of_ble_eq_true rfl) dX8_isName_20 ⟨Nat.le_of_ble_eq_true rfl, Nat.le_of_ble_eq_true rfl⟩ rfl) (fun u35 r_ H locs hw hP hD hS hk => ?_)
      obtain ⟨rfl, eu35, bu35⟩ := hw
      replace hP : va_P D vwCl [(o, eMM r mv fr I L)] H := hP.sub [0] rfl
      replace hD : va_D A [(o, eMM r mv fr I L)] := hD.sub [0] (by decide) rfl
      refine lv_if_ne (tgt := 75) hx hb dX8_isName_23 (by decide) (fun c36 => ?_) (fun c36 => ?_)
      · refine lv_iconst (v := 0) hx hb dX8_isName_75 ci_0 ?_
        exact Jn1 0 _ _ _ (by subst eu35; subst eu33; exact Eq.symm (Eq.trans (if_pos c32) (Eq.trans (if_pos c34) (Eq.trans (if_neg c36) (rfl))))) (Or.inl rfl) hP hD hS (lv_sub hl [0] rfl)
      · refine lv_aload_n hx hb dX8_isName_26 rfl (lv_at hl 0 rfl) ?_
        refine xs_ldc hx hb hz hg hown (tx := "liner") (i := 2) (List.mem_of_getElem? (i := 21) rfl) dX8_isName_27 ?_
        refine xc_i (wc := [(o, eMM r mv fr I L)]) (wr := []) hP hD hS hA [0] [] rfl rfl rfl (by decide) (xrV ⟨hx, hb, hml, hown, hts⟩ hg (m_X8_isWord l D k _ o r mv fr I L (k.1 (100 + 2)) (k.1 (200 + 2)) (scN 2) (scF 2) hz (by decide)) hP hD [0] rfl rfl ⟨oldY.call hO hS (va_free (wc := [(o, eMM r mv fr I L)]) hD hS hA [0] rfl), (sY.ofcz (hz.1 2 (by decide)) hg (hO.at hS)).mono (va_free (wc := [(o, eMM r mv fr I L)]) hD hS hA [0] rfl)⟩ (ci := 10) (q0 := 0) rfl rfl rfl q1366 q1368 qs44 q93 q1369 xo_X8_isWord ⟨rfl, rfl⟩ ⟨Nat.le_of_ble_eq_true rfl, Nat.le_of_ble_eq_true rfl⟩ hl.1 (Nat.le_of_ble_eq_true rfl) dX8_isName_29 ⟨Nat.le_of_ble_eq_true rfl, Nat.le_of_ble_eq_true rfl⟩ rfl) (fun u37 r_ H locs hw hP hD hS hk => ?_)
        obtain ⟨rfl, eu37, bu37⟩ := hw
        replace hP : va_P D vwCl [(o, eMM r mv fr I L)] H := hP.sub [0] rfl
        replace hD : va_D A [(o, eMM r mv fr I L)] := hD.sub [0] (by decide) rfl
        refine lv_if_ne (tgt := 75) hx hb dX8_isName_32 (by decide) (fun c38 => ?_) (fun c38 => ?_)
        · refine lv_iconst (v := 0) hx hb dX8_isName_75 ci_0 ?_
          exact Jn1 0 _ _ _ (by subst eu37; subst eu35; subst eu33; exact Eq.symm (Eq.trans (if_pos c32) (Eq.trans (if_pos c34) (Eq.trans (if_pos c36) (Eq.trans (if_neg c38) (rfl)))))) (Or.inl rfl) hP hD hS (lv_sub hl [0] rfl)
        · refine lv_aload_n hx hb dX8_isName_35 rfl (lv_at hl 0 rfl) ?_
          refine xs_ldc hx hb hz hg hown (tx := "bin") (i := 3) (List.mem_of_getElem? (i := 22) rfl) dX8_isName_36 ?_
          refine xc_i (wc := [(o, eMM r mv fr I L)]) (wr := []) hP hD hS hA [0] [] rfl rfl rfl (by decide) (xrV ⟨hx, hb, hml, hown, hts⟩ hg (m_X8_isWord l D k _ o r mv fr I L (k.1 (100 + 3)) (k.1 (200 + 3)) (scN 3) (scF 3) hz (by decide)) hP hD [0] rfl rfl ⟨oldY.call hO hS (va_free (wc := [(o, eMM r mv fr I L)]) hD hS hA [0] rfl), (sY.ofcz (hz.1 3 (by decide)) hg (hO.at hS)).mono (va_free (wc := [(o, eMM r mv fr I L)]) hD hS hA [0] rfl)⟩ (ci := 10) (q0 := 0) rfl rfl rfl q1366 q1368 qs44 q93 q1369 xo_X8_isWord ⟨rfl, rfl⟩ ⟨Nat.le_of_ble_eq_true rfl, Nat.le_of_ble_eq_true rfl⟩ hl.1 (Nat.le_of_ble_eq_true rfl) dX8_isName_38 ⟨Nat.le_of_ble_eq_true rfl, Nat.le_of_ble_eq_true rfl⟩ rfl) (fun u39 r_ H locs hw hP hD hS hk => ?_)
          obtain ⟨rfl, eu39, bu39⟩ := hw
          replace hP : va_P D vwCl [(o, eMM r mv fr I L)] H := hP.sub [0] rfl
          replace hD : va_D A [(o, eMM r mv fr I L)] := hD.sub [0] (by decide) rfl
          refine lv_if_ne (tgt := 75) hx hb dX8_isName_41 (by decide) (fun c40 => ?_) (fun c40 => ?_)
          · refine lv_iconst (v := 0) hx hb dX8_isName_75 ci_0 ?_
            exact Jn1 0 _ _ _ (by subst eu39; subst eu37; subst eu35; subst eu33; exact Eq.symm (Eq.trans (if_pos c32) (Eq.trans (if_pos c34) (Eq.trans (if_pos c36) (Eq.trans (if_pos c38) (Eq.trans (if_neg c40) (rfl))))))) (Or.inl rfl) hP hD hS (lv_sub hl [0] rfl)
          · refine lv_aload_n hx hb dX8_isName_44 rfl (lv_at hl 0 rfl) ?_
            refine xs_ldc hx hb hz hg hown (tx := "price") (i := 4) (List.mem_of_getElem? (i := 23) rfl) dX8_isName_45 ?_
            refine xc_i (wc := [(o, eMM r mv fr I L)]) (wr := []) hP hD hS hA [0] [] rfl rfl rfl (by decide) (xrV ⟨hx, hb, hml, hown, hts⟩ hg (m_X8_isWord l D k _ o r mv fr I L (k.1 (100 + 4)) (k.1 (200 + 4)) (scN 4) (scF 4) hz (by decide)) hP hD [0] rfl rfl ⟨oldY.call hO hS (va_free (wc := [(o, eMM r mv fr I L)]) hD hS hA [0] rfl), (sY.ofcz (hz.1 4 (by decide)) hg (hO.at hS)).mono (va_free (wc := [(o, eMM r mv fr I L)]) hD hS hA [0] rfl)⟩ (ci := 10) (q0 := 0) rfl rfl rfl q1366 q1368 qs44 q93 q1369 xo_X8_isWord ⟨rfl, rfl⟩ ⟨Nat.le_of_ble_eq_true rfl, Nat.le_of_ble_eq_true rfl⟩ hl.1 (Nat.le_of_ble_eq_true rfl) dX8_isName_47 ⟨Nat.le_of_ble_eq_true rfl, Nat.le_of_ble_eq_true rfl⟩ rfl) (fun u41 r_ H locs hw hP hD hS hk => ?_)
            obtain ⟨rfl, eu41, bu41⟩ := hw
            replace hP : va_P D vwCl [(o, eMM r mv fr I L)] H := hP.sub [0] rfl
            replace hD : va_D A [(o, eMM r mv fr I L)] := hD.sub [0] (by decide) rfl
            refine lv_if_ne (tgt := 75) hx hb dX8_isName_50 (by decide) (fun c42 => ?_) (fun c42 => ?_)
            · refine lv_iconst (v := 0) hx hb dX8_isName_75 ci_0 ?_
              exact Jn1 0 _ _ _ (by subst eu41; subst eu39; subst eu37; subst eu35; subst eu33; exact Eq.symm (Eq.trans (if_pos c32) (Eq.trans (if_pos c34) (Eq.trans (if_pos c36) (Eq.trans (if_pos c38) (Eq.trans (if_pos c40) (Eq.trans (if_neg c42) (rfl)))))))) (Or.inl rfl) hP hD hS (lv_sub hl [0] rfl)
            · refine lv_aload_n hx hb dX8_isName_53 rfl (lv_at hl 0 rfl) ?_
              refine xs_ldc hx hb hz hg hown (tx := "size") (i := 5) (List.mem_of_getElem? (i := 24) rfl) dX8_isName_54 ?_
              refine xc_i (wc := [(o, eMM r mv fr I L)]) (wr := []) hP hD hS hA [0] [] rfl rfl rfl (by decide) (xrV ⟨hx, hb, hml, hown, hts⟩ hg (m_X8_isWord l D k _ o r mv fr I L (k.1 (100 + 5)) (k.1 (200 + 5)) (scN 5) (scF 5) hz (by decide)) hP hD [0] rfl rfl ⟨oldY.call hO hS (va_free (wc := [(o, eMM r mv fr I L)]) hD hS hA [0] rfl), (sY.ofcz (hz.1 5 (by decide)) hg (hO.at hS)).mono (va_free (wc := [(o, eMM r mv fr I L)]) hD hS hA [0] rfl)⟩ (ci := 10) (q0 := 0) rfl rfl rfl q1366 q1368 qs44 q93 q1369 xo_X8_isWord ⟨rfl, rfl⟩ ⟨Nat.le_of_ble_eq_true rfl, Nat.le_of_ble_eq_true rfl⟩ hl.1 (Nat.le_of_ble_eq_true rfl) dX8_isName_56 ⟨Nat.le_of_ble_eq_true rfl, Nat.le_of_ble_eq_true rfl⟩ rfl) (fun u43 r_ H locs hw hP hD hS hk => ?_)
              obtain ⟨rfl, eu43, bu43⟩ := hw
              replace hP : va_P D vwCl [(o, eMM r mv fr I L)] H := hP.sub [0] rfl
              replace hD : va_D A [(o, eMM r mv fr I L)] := hD.sub [0] (by decide) rfl
              refine lv_if_ne (tgt := 75) hx hb dX8_isName_59 (by decide) (fun c44 => ?_) (fun c44 => ?_)
              · refine lv_iconst (v := 0) hx hb dX8_isName_75 ci_0 ?_
                exact Jn1 0 _ _ _ (by subst eu43; subst eu41; subst eu39; subst eu37; subst eu35; subst eu33; exact Eq.symm (Eq.trans (if_pos c32) (Eq.trans (if_pos c34) (Eq.trans (if_pos c36) (Eq.trans (if_pos c38) (Eq.trans (if_pos c40) (Eq.trans (if_pos c42) (Eq.trans (if_neg c44) (rfl))))))))) (Or.inl rfl) hP hD hS (lv_sub hl [0] rfl)
              · refine lv_aload_n hx hb dX8_isName_62 rfl (lv_at hl 0 rfl) ?_
                refine xs_ldc hx hb hz hg hown (tx := "ore") (i := 6) (List.mem_of_getElem? (i := 25) rfl) dX8_isName_63 ?_
                refine xc_i (wc := [(o, eMM r mv fr I L)]) (wr := []) hP hD hS hA [0] [] rfl rfl rfl (by decide) (xrV ⟨hx, hb, hml, hown, hts⟩ hg (m_X8_isWord l D k _ o r mv fr I L (k.1 (100 + 6)) (k.1 (200 + 6)) (scN 6) (scF 6) hz (by decide)) hP hD [0] rfl rfl ⟨oldY.call hO hS (va_free (wc := [(o, eMM r mv fr I L)]) hD hS hA [0] rfl), (sY.ofcz (hz.1 6 (by decide)) hg (hO.at hS)).mono (va_free (wc := [(o, eMM r mv fr I L)]) hD hS hA [0] rfl)⟩ (ci := 10) (q0 := 0) rfl rfl rfl q1366 q1368 qs44 q93 q1369 xo_X8_isWord ⟨rfl, rfl⟩ ⟨Nat.le_of_ble_eq_true rfl, Nat.le_of_ble_eq_true rfl⟩ hl.1 (Nat.le_of_ble_eq_true rfl) dX8_isName_65 ⟨Nat.le_of_ble_eq_true rfl, Nat.le_of_ble_eq_true rfl⟩ rfl) (fun u45 r_ H locs hw hP hD hS hk => ?_)
                obtain ⟨rfl, eu45, bu45⟩ := hw
                replace hP : va_P D vwCl [(o, eMM r mv fr I L)] H := hP.sub [0] rfl
                replace hD : va_D A [(o, eMM r mv fr I L)] := hD.sub [0] (by decide) rfl
                refine lv_if_ne (tgt := 75) hx hb dX8_isName_68 (by decide) (fun c46 => ?_) (fun c46 => ?_)
                · refine lv_iconst (v := 0) hx hb dX8_isName_75 ci_0 ?_
                  exact Jn1 0 _ _ _ (by subst eu45; subst eu43; subst eu41; subst eu39; subst eu37; subst eu35; subst eu33; exact Eq.symm (Eq.trans (if_pos c32) (Eq.trans (if_pos c34) (Eq.trans (if_pos c36) (Eq.trans (if_pos c38) (Eq.trans (if_pos c40) (Eq.trans (if_pos c42) (Eq.trans (if_pos c44) (Eq.trans (if_neg c46) (rfl)))))))))) (Or.inl rfl) hP hD hS (lv_sub hl [0] rfl)
                · refine lv_iconst (v := 1) hx hb dX8_isName_71 ci_1 ?_
                  refine lv_goto (tgt := 76) hx hb dX8_isName_72 (by decide) ?_
                  exact Jn1 1 _ _ _ (by subst eu45; subst eu43; subst eu41; subst eu39; subst eu37; subst eu35; subst eu33; exact Eq.symm (Eq.trans (if_pos c32) (Eq.trans (if_pos c34) (Eq.trans (if_pos c36) (Eq.trans (if_pos c38) (Eq.trans (if_pos c40) (Eq.trans (if_pos c42) (Eq.trans (if_pos c44) (Eq.trans (if_pos c46) (rfl)))))))))) (Or.inr rfl) hP hD hS (lv_sub hl [0] rfl)
