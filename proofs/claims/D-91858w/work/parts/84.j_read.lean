set_option maxRecDepth 100000
def f_J3_coder  : Int32 :=
  0
abbrev q_J3_coder (D : va_G) (k : KK) (w : Nat) (wv : Nat) (wn : Nat) (wb : Nat → Int32) (A : Nat → Prop) : Array Value → State → Outcome → State → Prop := va_Qi (fun (r_ : Int32) (u : Int32) => r_ = u ∧ u = f_J3_coder) (bx D (fun u => []) A) A
abbrev rm_J3_coder : Room := { frames := 1, cells := 0, slots := 0, locals := 40 }
theorem xo_J3_coder : xok yJ3_coder 0 := by unfold xok; decide +kernel
set_option maxHeartbeats 8000000 in
theorem m_J3_coder (l : Launch) (D : va_G) (k : KK) (sz : Nat) (w : Nat) (wv : Nat) (wn : Nat) (wb : Nat → Int32) (hz : cz k) : Met l yJ3_coder (ws_ yJ3_coder cJ3_coder 1 (some .byte)) rm_J3_coder (pcx D k [.ref w] sz [] (fun H => oldY k (va_A [] sz) H ∧ sY D k w wv wn wb (va_A [] sz) H)) (q_J3_coder D k w wv wn wb (va_A [] sz)) 0 0 (va_A [] sz) := by
  refine Met.start (Qc := q_J3_coder D k w wv wn wb) (by decide) (Nat.le_of_ble_eq_true rfl) ?_
  intro p e s m below meth c A hx hb hr hlocks hml hown hin hts hg hP hD hA hAn hS hY hsz ls hl
  have hown : s.vm.findClass RJ3 = some m.cls := hown
  have hl : lv_has ls 1 [(0, .ref w)] := hl
  have hO := oldY.mono hY.1 hAn
  have hs0 := sY.mono hY.2 hAn
  refine va_gets hx hb (va_Z.old hz.2.2.2.1 hg hO) hS hown (hts _ q600) (fun _ h9 => h9) dJ3_coder_0 ?_
  refine lv_if_eq (tgt := 13) hx hb dJ3_coder_3 (by decide) (fun c => absurd c (by decide)) (fun _ => ?_)
  refine lv_aload_n hx hb dJ3_coder_6 rfl (lv_at hl 0 rfl) ?_
  refine xs_cod hx hb hts hown hg (hs0.at hS).1 (hts _ q645) dJ3_coder_7 ?_
  refine lv_goto (tgt := 14) hx hb dJ3_coder_10 (by decide) ?_
  exact xret_n hx hb hr hlocks (Nat.le_of_ble_eq_true rfl) (Nat.le_of_ble_eq_true rfl) hS.2.2 dJ3_coder_14 rfl (fun t ht => ⟨⟨0, 0, rfl, ⟨rfl, rfl⟩, by rw [ht]; exact hP, hD⟩, hS.F ht⟩)

def f_J3_isLatin1  : Int32 :=
  1
abbrev q_J3_isLatin1 (D : va_G) (k : KK) (w : Nat) (wv : Nat) (wn : Nat) (wb : Nat → Int32) (A : Nat → Prop) : Array Value → State → Outcome → State → Prop := va_Qi (fun (r_ : Int32) (u : Int32) => r_ = u ∧ u = f_J3_isLatin1 ∧ (r_ = 0 ∨ r_ = 1)) (bx D (fun u => []) A) A
abbrev rm_J3_isLatin1 : Room := { frames := 1, cells := 0, slots := 0, locals := 40 }
theorem xo_J3_isLatin1 : xok yJ3_isLatin1 0 := by unfold xok; decide +kernel
set_option maxHeartbeats 8000000 in
theorem m_J3_isLatin1 (l : Launch) (D : va_G) (k : KK) (sz : Nat) (w : Nat) (wv : Nat) (wn : Nat) (wb : Nat → Int32) (hz : cz k) : Met l yJ3_isLatin1 (ws_ yJ3_isLatin1 cJ3_isLatin1 1 (some .boolean)) rm_J3_isLatin1 (pcx D k [.ref w] sz [] (fun H => oldY k (va_A [] sz) H ∧ sY D k w wv wn wb (va_A [] sz) H)) (q_J3_isLatin1 D k w wv wn wb (va_A [] sz)) 0 0 (va_A [] sz) := by
  refine Met.start (Qc := q_J3_isLatin1 D k w wv wn wb) (by decide) (Nat.le_of_ble_eq_true rfl) ?_
  intro p e s m below meth c A hx hb hr hlocks hml hown hin hts hg hP hD hA hAn hS hY hsz ls hl
  have hown : s.vm.findClass RJ3 = some m.cls := hown
  have hl : lv_has ls 1 [(0, .ref w)] := hl
  have hO := oldY.mono hY.1 hAn
  have hs0 := sY.mono hY.2 hAn
  refine va_gets hx hb (va_Z.old hz.2.2.2.1 hg hO) hS hown (hts _ q600) (fun _ h9 => h9) dJ3_isLatin1_0 ?_
  refine lv_if_eq (tgt := 17) hx hb dJ3_isLatin1_3 (by decide) (fun c => absurd c (by decide)) (fun _ => ?_)
  refine lv_aload_n hx hb dJ3_isLatin1_6 rfl (lv_at hl 0 rfl) ?_
  refine xs_cod hx hb hts hown hg (hs0.at hS).1 (hts _ q645) dJ3_isLatin1_7 ?_
  refine lv_if_ne (tgt := 17) hx hb dJ3_isLatin1_10 (by decide) (fun c => absurd (by decide) c) (fun _ => ?_)
  refine lv_iconst (v := 1) hx hb dJ3_isLatin1_13 ci_1 ?_
  refine lv_goto (tgt := 18) hx hb dJ3_isLatin1_14 (by decide) ?_
  exact xret_z hx hb hr hlocks (Nat.le_of_ble_eq_true rfl) (Nat.le_of_ble_eq_true rfl) hS.2.2 dJ3_isLatin1_18 (Or.inr rfl) (fun t ht => ⟨⟨1, 1, rfl, ⟨rfl, rfl, (Or.inr rfl)⟩, by rw [ht]; exact hP, hD⟩, hS.F ht⟩)

def f_J3_length (wn : Nat) : Int32 :=
  let u1 := f_J3_coder
  ((nI wn) >>> (u1 &&& 31))
abbrev q_J3_length (D : va_G) (k : KK) (w : Nat) (wv : Nat) (wn : Nat) (wb : Nat → Int32) (A : Nat → Prop) : Array Value → State → Outcome → State → Prop := va_Qi (fun (r_ : Int32) (u : Int32) => r_ = u ∧ u = f_J3_length wn) (bx D (fun u => []) A) A
abbrev rm_J3_length : Room := { frames := 2, cells := 0, slots := 0, locals := 80 }
theorem xo_J3_length : xok yJ3_length 0 := by unfold xok; decide +kernel
set_option maxHeartbeats 8000000 in
theorem m_J3_length (l : Launch) (D : va_G) (k : KK) (sz : Nat) (w : Nat) (wv : Nat) (wn : Nat) (wb : Nat → Int32) (hz : cz k) : Met l yJ3_length (ws_ yJ3_length cJ3_length 1 (some .int)) rm_J3_length (pcx D k [.ref w] sz [] (fun H => oldY k (va_A [] sz) H ∧ sY D k w wv wn wb (va_A [] sz) H)) (q_J3_length D k w wv wn wb (va_A [] sz)) 0 0 (va_A [] sz) := by
  refine Met.start (Qc := q_J3_length D k w wv wn wb) (by decide) (Nat.le_of_ble_eq_true rfl) ?_
  intro p e s m below meth c A hx hb hr hlocks hml hown hin hts hg hP hD hA hAn hS hY hsz ls hl
  have hown : s.vm.findClass RJ3 = some m.cls := hown
  have hl : lv_has ls 1 [(0, .ref w)] := hl
  have hO := oldY.mono hY.1 hAn
  have hs0 := sY.mono hY.2 hAn
  refine lv_aload_n hx hb dJ3_length_0 rfl (lv_at hl 0 rfl) ?_
  refine xs_val hx hb hts hown hg (hs0.at hS).1 (hts _ q644) dJ3_length_1 ?_
  refine xs_alen hx hb hg (hs0.at hS).2 dJ3_length_4 ?_
  refine lv_aload_n hx hb dJ3_length_5 rfl (lv_at hl 0 rfl) ?_
  refine xc_i (wc := []) (wr := []) hP hD hS hA [] [] rfl rfl rfl (by decide) (xrVs ⟨hx, hb, hml, hown, hts⟩ hg (m_J3_coder l D k _ w wv wn wb hz) hP hD [] rfl rfl ⟨oldY.call hO hS (va_free (wc := []) hD hS hA [] rfl), (hs0.at hS).mono (va_free (wc := []) hD hS hA [] rfl)⟩ ((hs0.at hS).1.recv hg) q1377 q1378 q1379 q95 q1380 xo_J3_coder ⟨rfl, rfl⟩ ⟨Nat.le_of_ble_eq_true rfl, Nat.le_of_ble_eq_true rfl⟩ hl.1 (Nat.le_of_ble_eq_true rfl) dJ3_length_6 ⟨Nat.le_of_ble_eq_true rfl, Nat.le_of_ble_eq_true rfl⟩ rfl) (fun u1 r_ H locs hw hP hD hS hk => ?_)
  obtain ⟨rfl, eu1⟩ := hw
  replace hP : va_P D vwCl [] H := hP.sub [] rfl
  replace hD : va_D A [] := hD.sub [] (by decide) rfl
  refine lv_ishr hx hb dJ3_length_9 ?_
  exact xret_i hx hb hr hlocks (Nat.le_of_ble_eq_true rfl) (Nat.le_of_ble_eq_true rfl) hS.2.2 dJ3_length_10 (fun t ht => ⟨⟨((nI wn) >>> (u1 &&& 31)), ((nI wn) >>> (u1 &&& 31)), rfl, ⟨rfl, (by subst eu1; exact rfl)⟩, by rw [ht]; exact hP, hD⟩, hS.F ht⟩)

def f_J4_checkIndex (x : Int32) : Int32 :=
  x
abbrev q_J4_checkIndex (D : va_G) (k : KK) (x : Int32) (y : Int32) (xj : Nat) (yn : Nat) (fm : Nat) (A : Nat → Prop) : Array Value → State → Outcome → State → Prop := va_Qi (fun (r_ : Int32) (u : Int32) => r_ = u ∧ u = f_J4_checkIndex x) (bx D (fun u => []) A) A
abbrev rm_J4_checkIndex : Room := { frames := 1, cells := 0, slots := 0, locals := 40 }
theorem xo_J4_checkIndex : xok yJ4_checkIndex 3 := by unfold xok; decide +kernel
set_option maxHeartbeats 8000000 in
theorem m_J4_checkIndex (l : Launch) (D : va_G) (k : KK) (sz : Nat) (x : Int32) (y : Int32) (xj : Nat) (yn : Nat) (fm : Nat) (hx_ : x = nI xj) (hlt : xj < yn) (hyb : yn < 2 ^ 31) (hy_ : y = nI yn) : Met l yJ4_checkIndex (ws_ yJ4_checkIndex cJ4_checkIndex 3 (some .int)) rm_J4_checkIndex (pcx D k [.int x, .int y, .ref fm] sz [] (fun _ => True)) (q_J4_checkIndex D k x y xj yn fm (va_A [] sz)) 0 0 (va_A [] sz) := by
  refine Met.start (Qc := q_J4_checkIndex D k x y xj yn fm) (by decide) (Nat.le_of_ble_eq_true rfl) ?_
  intro p e s m below meth c A hx hb hr hlocks hml hown hin hts hg hP hD hA hAn hS hY hsz ls hl
  have hown : s.vm.findClass RJ4 = some m.cls := hown
  have hl : lv_has ls 3 [(0, .int x), (1, .int y), (2, .ref fm)] := hl
  refine lv_iload_n hx hb dJ4_checkIndex_0 rfl (lv_at hl 0 rfl) ?_
  refine lv_if_lt (tgt := 9) hx hb dJ4_checkIndex_1 (by decide) (fun c => absurd c (by rw [hx_]; exact nI_pos (by omega))) (fun _ => ?_)
  refine lv_iload_n hx hb dJ4_checkIndex_4 rfl (lv_at hl 0 rfl) ?_
  refine lv_iload_n hx hb dJ4_checkIndex_5 rfl (lv_at hl 1 rfl) ?_
  refine lv_icmp_lt (tgt := 16) hx hb dJ4_checkIndex_6 (by decide) (fun _ => ?_) (fun c => absurd (xlt_t hx_ hy_ (by omega) (by omega)) c)
  refine lv_iload_n hx hb dJ4_checkIndex_16 rfl (lv_at hl 0 rfl) ?_
  exact xret_i hx hb hr hlocks (Nat.le_of_ble_eq_true rfl) (Nat.le_of_ble_eq_true rfl) hS.2.2 dJ4_checkIndex_17 (fun t ht => ⟨⟨x, x, rfl, ⟨rfl, rfl⟩, by rw [ht]; exact hP, hD⟩, hS.F ht⟩)

def f_J4_checkIndexN (x : Int32) : Int32 :=
  x
abbrev q_J4_checkIndexN (D : va_G) (k : KK) (x : Int32) (y : Int32) (xj : Nat) (yn : Nat) (A : Nat → Prop) : Array Value → State → Outcome → State → Prop := va_Qi (fun (r_ : Int32) (u : Int32) => r_ = u ∧ u = f_J4_checkIndexN x) (bx D (fun u => []) A) A
abbrev rm_J4_checkIndexN : Room := { frames := 1, cells := 0, slots := 0, locals := 40 }
set_option maxHeartbeats 8000000 in
theorem m_J4_checkIndexN (l : Launch) (D : va_G) (k : KK) (sz : Nat) (x : Int32) (y : Int32) (xj : Nat) (yn : Nat) (hx_ : x = nI xj) (hlt : xj < yn) (hyb : yn < 2 ^ 31) (hy_ : y = nI yn) : Met l yJ4_checkIndex (ws_ yJ4_checkIndex cJ4_checkIndex 3 (some .int)) rm_J4_checkIndexN (pcx D k [.int x, .int y, .null] sz [] (fun _ => True)) (q_J4_checkIndexN D k x y xj yn (va_A [] sz)) 0 0 (va_A [] sz) := by
  refine Met.start (Qc := q_J4_checkIndexN D k x y xj yn) (by decide) (Nat.le_of_ble_eq_true rfl) ?_
  intro p e s m below meth c A hx hb hr hlocks hml hown hin hts hg hP hD hA hAn hS hY hsz ls hl
  have hown : s.vm.findClass RJ4 = some m.cls := hown
  have hl : lv_has ls 3 [(0, .int x), (1, .int y), (2, .null)] := hl
  refine lv_iload_n hx hb dJ4_checkIndex_0 rfl (lv_at hl 0 rfl) ?_
  refine lv_if_lt (tgt := 9) hx hb dJ4_checkIndex_1 (by decide) (fun c => absurd c (by rw [hx_]; exact nI_pos (by omega))) (fun _ => ?_)
  refine lv_iload_n hx hb dJ4_checkIndex_4 rfl (lv_at hl 0 rfl) ?_
  refine lv_iload_n hx hb dJ4_checkIndex_5 rfl (lv_at hl 1 rfl) ?_
  refine lv_icmp_lt (tgt := 16) hx hb dJ4_checkIndex_6 (by decide) (fun _ => ?_) (fun c => absurd (xlt_t hx_ hy_ (by omega) (by omega)) c)
  refine lv_iload_n hx hb dJ4_checkIndex_16 rfl (lv_at hl 0 rfl) ?_
  exact xret_i hx hb hr hlocks (Nat.le_of_ble_eq_true rfl) (Nat.le_of_ble_eq_true rfl) hS.2.2 dJ4_checkIndex_17 (fun t ht => ⟨⟨x, x, rfl, ⟨rfl, rfl⟩, by rw [ht]; exact hP, hD⟩, hS.F ht⟩)

abbrev q_J3_checkIndex (D : va_G) (k : KK) (x : Int32) (y : Int32) (xj : Nat) (yn : Nat) (A : Nat → Prop) : Array Value → State → Outcome → State → Prop := va_Qv (fun (u : Unit) => u = ()) (bx D (fun u => []) A) A
abbrev rm_J3_checkIndex : Room := { frames := 2, cells := 0, slots := 0, locals := 80 }
theorem xo_J3_checkIndex : xok yJ3_checkIndex 2 := by unfold xok; decide +kernel
set_option maxHeartbeats 8000000 in
theorem m_J3_checkIndex (l : Launch) (D : va_G) (k : KK) (sz : Nat) (x : Int32) (y : Int32) (xj : Nat) (yn : Nat) (hz : cz k) (hx_ : x = nI xj) (hlt : xj < yn) (hyb : yn < 2 ^ 31) (hy_ : y = nI yn) : Met l yJ3_checkIndex (ws_ yJ3_checkIndex cJ3_checkIndex 2 none) rm_J3_checkIndex (pcx D k [.int x, .int y] sz [] (fun H => oldY k (va_A [] sz) H)) (q_J3_checkIndex D k x y xj yn (va_A [] sz)) 0 0 (va_A [] sz) := by
  refine Met.start (Qc := q_J3_checkIndex D k x y xj yn) (by decide) (Nat.le_of_ble_eq_true rfl) ?_
  intro p e s m below meth c A hx hb hr hlocks hml hown hin hts hg hP hD hA hAn hS hY hsz ls hl
  have hown : s.vm.findClass RJ3 = some m.cls := hown
  have hl : lv_has ls 2 [(0, .int x), (1, .int y)] := hl
  have hO := oldY.mono hY hAn
  refine lv_iload_n hx hb dJ3_checkIndex_0 rfl (lv_at hl 0 rfl) ?_
  refine lv_iload_n hx hb dJ3_checkIndex_1 rfl (lv_at hl 1 rfl) ?_
  refine va_Zq.two (va_Zq.old hz.2.2.2.2.2.1 hg hO) (fun ht1 => ?_) (fun t1 ht1 => ?_)
  · refine va_gets hx hb ht1 hS hown (hts _ q590) (fun _ h9 => h9) dJ3_checkIndex_2 ?_
    refine xc_i (wc := []) (wr := []) hP hD hS hA [] [] rfl rfl rfl (by decide) (xrS ⟨hx, hb, hml, hown, hts⟩ hg (m_J4_checkIndexN l D k _ x y xj yn hx_ hlt hyb hy_) hP hD [] rfl rfl trivial q1391 q1392 q96 q1393 xo_J4_checkIndex ⟨rfl, rfl⟩ ⟨Nat.le_of_ble_eq_true rfl, Nat.le_of_ble_eq_true rfl⟩ hl.1 (Nat.le_of_ble_eq_true rfl) dJ3_checkIndex_5 ⟨Nat.le_of_ble_eq_true rfl, Nat.le_of_ble_eq_true rfl⟩ rfl) (fun u2 r_ H locs hw hP hD hS hk => ?_)
    obtain ⟨rfl, eu2⟩ := hw
    replace hP : va_P D vwCl [] H := hP.sub [] rfl
    replace hD : va_D A [] := hD.sub [] (by decide) rfl
    refine lv_pop hx hb dJ3_checkIndex_8 rfl ?_
    exact xret_v hx hb hr hlocks (Nat.le_of_ble_eq_true rfl) (Nat.le_of_ble_eq_true rfl) hS.2.2 dJ3_checkIndex_9 (fun t ht => ⟨⟨(), rfl, (by subst eu2; exact rfl), by rw [ht]; exact hP, hD⟩, hS.F ht⟩)
  · refine va_gets hx hb ht1 hS hown (hts _ q590) (fun _ h9 => h9) dJ3_checkIndex_2 ?_
    refine xc_i (wc := []) (wr := []) hP hD hS hA [] [] rfl rfl rfl (by decide) (xrS ⟨hx, hb, hml, hown, hts⟩ hg (m_J4_checkIndex l D k _ x y xj yn t1 hx_ hlt hyb hy_) hP hD [] rfl rfl trivial q1391 q1392 q96 q1393 xo_J4_checkIndex ⟨rfl, rfl⟩ ⟨Nat.le_of_ble_eq_true rfl, Nat.le_of_ble_eq_true rfl⟩ hl.1 (Nat.le_of_ble_eq_true rfl) dJ3_checkIndex_5 ⟨Nat.le_of_ble_eq_true rfl, Nat.le_of_ble_eq_true rfl⟩ rfl) (fun u3 r_ H locs hw hP hD hS hk => ?_)
    obtain ⟨rfl, eu3⟩ := hw
    replace hP : va_P D vwCl [] H := hP.sub [] rfl
    replace hD : va_D A [] := hD.sub [] (by decide) rfl
    refine lv_pop hx hb dJ3_checkIndex_8 rfl ?_
    exact xret_v hx hb hr hlocks (Nat.le_of_ble_eq_true rfl) (Nat.le_of_ble_eq_true rfl) hS.2.2 dJ3_checkIndex_9 (fun t ht => ⟨⟨(), rfl, (by subst eu3; exact rfl), by rw [ht]; exact hP, hD⟩, hS.F ht⟩)

def f_J6_charAt (xj : Nat) (bs : Nat → Int32) : Int32 :=
  (((bs xj) &&& 255).toUInt32 % 65536).toInt32
abbrev q_J6_charAt (D : va_G) (k : KK) (x : Int32) (xj : Nat) (av : Nat) (yn : Nat) (bs : Nat → Int32) (A : Nat → Prop) : Array Value → State → Outcome → State → Prop := va_Qi (fun (r_ : Int32) (u : Int32) => r_ = u ∧ u = f_J6_charAt xj bs) (bx D (fun u => []) A) A
abbrev rm_J6_charAt : Room := { frames := 3, cells := 0, slots := 0, locals := 120 }
theorem xo_J6_charAt : xok yJ6_charAt 2 := by unfold xok; decide +kernel
set_option maxHeartbeats 8000000 in
theorem m_J6_charAt (l : Launch) (D : va_G) (k : KK) (sz : Nat) (x : Int32) (xj : Nat) (av : Nat) (yn : Nat) (bs : Nat → Int32) (hz : cz k) (hx_ : x = nI xj) (hlt : xj < yn) (hyb : yn < 2 ^ 31) : Met l yJ6_charAt (ws_ yJ6_charAt cJ6_charAt 2 (some .char)) rm_J6_charAt (pcx D k [.ref av, .int x] sz [] (fun H => oldY k (va_A [] sz) H ∧ sAY k av yn bs (va_A [] sz) H)) (q_J6_charAt D k x xj av yn bs (va_A [] sz)) 0 0 (va_A [] sz) := by
  refine Met.start (Qc := q_J6_charAt D k x xj av yn bs) (by decide) (Nat.le_of_ble_eq_true rfl) ?_
  intro p e s m below meth c A hx hb hr hlocks hml hown hin hts hg hP hD hA hAn hS hY hsz ls hl
  have hown : s.vm.findClass RJ6 = some m.cls := hown
  have hl : lv_has ls 2 [(0, .ref av), (1, .int x)] := hl
  have hO := oldY.mono hY.1 hAn
  have ha0 := va_T.narrow hY.2 hAn
  refine lv_iload_n hx hb dJ6_charAt_0 rfl (lv_at hl 1 rfl) ?_
  refine lv_aload_n hx hb dJ6_charAt_1 rfl (lv_at hl 0 rfl) ?_
  refine xs_alen hx hb hg (sAY.at ha0 hS) dJ6_charAt_2 ?_
  refine xc_v (wc := []) (wr := []) hP hD hS hA [] [] rfl rfl rfl (by decide) (xrS ⟨hx, hb, hml, hown, hts⟩ hg (m_J3_checkIndex l D k _ x (nI yn) xj yn hz hx_ hlt hyb rfl) hP hD [] rfl rfl (oldY.call hO hS (va_free (wc := []) hD hS hA [] rfl)) q1388 q1389 q95 q1390 xo_J3_checkIndex ⟨rfl, rfl⟩ ⟨Nat.le_of_ble_eq_true rfl, Nat.le_of_ble_eq_true rfl⟩ hl.1 (Nat.le_of_ble_eq_true rfl) dJ6_charAt_3 ⟨Nat.le_of_ble_eq_true rfl, Nat.le_of_ble_eq_true rfl⟩ rfl) (fun u1 H locs hw hP hD hS hk => ?_)
  replace hP : va_P D vwCl [] H := hP.sub [] rfl
  replace hD : va_D A [] := hD.sub [] (by decide) rfl
  refine lv_aload_n hx hb dJ6_charAt_6 rfl (lv_at hl 0 rfl) ?_
  refine lv_iload_n hx hb dJ6_charAt_7 rfl (lv_at hl 1 rfl) ?_
  refine xs_bald hx hb hg (sAY.at ha0 hS) hx_ (by omega) (by omega) dJ6_charAt_8 ?_
  refine lv_sipush (v := 255) hx hb dJ6_charAt_9 cs_255 ?_
  refine lv_iand hx hb dJ6_charAt_12 ?_
  refine lv_i2c hx hb dJ6_charAt_13 rfl ?_
  exact xret_n hx hb hr hlocks (Nat.le_of_ble_eq_true rfl) (Nat.le_of_ble_eq_true rfl) hS.2.2 dJ6_charAt_14 (pk_nc _) (fun t ht => ⟨⟨((((bs xj) &&& 255).toUInt32 % 65536).toInt32), ((((bs xj) &&& 255).toUInt32 % 65536).toInt32), rfl, ⟨rfl, rfl⟩, by rw [ht]; exact hP, hD⟩, hS.F ht⟩)

def f_J3_charAt (xj : Nat) (wb : Nat → Int32) : Int32 :=
  let u1 := f_J3_isLatin1
  let u2 := f_J6_charAt xj wb
  u2
abbrev q_J3_charAt (D : va_G) (k : KK) (x : Int32) (xj : Nat) (w : Nat) (wv : Nat) (wn : Nat) (wb : Nat → Int32) (A : Nat → Prop) : Array Value → State → Outcome → State → Prop := va_Qi (fun (r_ : Int32) (u : Int32) => r_ = u ∧ u = f_J3_charAt xj wb) (bx D (fun u => []) A) A
abbrev rm_J3_charAt : Room := { frames := 4, cells := 0, slots := 0, locals := 160 }
theorem xo_J3_charAt : xok yJ3_charAt 1 := by unfold xok; decide +kernel
set_option maxHeartbeats 8000000 in
theorem m_J3_charAt (l : Launch) (D : va_G) (k : KK) (sz : Nat) (x : Int32) (xj : Nat) (w : Nat) (wv : Nat) (wn : Nat) (wb : Nat → Int32) (hz : cz k) (hx_ : x = nI xj) (hlt : xj < wn) (hyb : wn < 2 ^ 31) : Met l yJ3_charAt (ws_ yJ3_charAt cJ3_charAt 2 (some .char)) rm_J3_charAt (pcx D k [.ref w, .int x] sz [] (fun H => oldY k (va_A [] sz) H ∧ sY D k w wv wn wb (va_A [] sz) H)) (q_J3_charAt D k x xj w wv wn wb (va_A [] sz)) 0 0 (va_A [] sz) := by
  refine Met.start (Qc := q_J3_charAt D k x xj w wv wn wb) (by decide) (Nat.le_of_ble_eq_true rfl) ?_
  intro p e s m below meth c A hx hb hr hlocks hml hown hin hts hg hP hD hA hAn hS hY hsz ls hl
  have hown : s.vm.findClass RJ3 = some m.cls := hown
  have hl : lv_has ls 2 [(0, .ref w), (1, .int x)] := hl
  have hO := oldY.mono hY.1 hAn
  have hs0 := sY.mono hY.2 hAn
  refine lv_aload_n hx hb dJ3_charAt_0 rfl (lv_at hl 0 rfl) ?_
  refine xc_i (wc := []) (wr := []) hP hD hS hA [] [] rfl rfl rfl (by decide) (xrVs ⟨hx, hb, hml, hown, hts⟩ hg (m_J3_isLatin1 l D k _ w wv wn wb hz) hP hD [] rfl rfl ⟨oldY.call hO hS (va_free (wc := []) hD hS hA [] rfl), (hs0.at hS).mono (va_free (wc := []) hD hS hA [] rfl)⟩ ((hs0.at hS).1.recv hg) q677 q678 q679 q95 q680 xo_J3_isLatin1 ⟨rfl, rfl⟩ ⟨Nat.le_of_ble_eq_true rfl, Nat.le_of_ble_eq_true rfl⟩ hl.1 (Nat.le_of_ble_eq_true rfl) dJ3_charAt_1 ⟨Nat.le_of_ble_eq_true rfl, Nat.le_of_ble_eq_true rfl⟩ rfl) (fun u1 r_ H locs hw hP hD hS hk => ?_)
  obtain ⟨rfl, eu1, bu1⟩ := hw
  replace hP : va_P D vwCl [] H := hP.sub [] rfl
  replace hD : va_D A [] := hD.sub [] (by decide) rfl
  refine lv_if_eq (tgt := 16) hx hb dJ3_charAt_4 (by decide) (fun c => absurd c (by rw [eu1]; decide)) (fun _ => ?_)
  refine lv_aload_n hx hb dJ3_charAt_7 rfl (lv_at hl 0 rfl) ?_
  refine xs_val hx hb hts hown hg (hs0.at hS).1 (hts _ q644) dJ3_charAt_8 ?_
  refine lv_iload_n hx hb dJ3_charAt_11 rfl (lv_at hl 1 rfl) ?_
  refine xc_i (wc := []) (wr := []) hP hD hS hA [] [] rfl rfl rfl (by decide) (xrS ⟨hx, hb, hml, hown, hts⟩ hg (m_J6_charAt l D k _ x xj wv wn wb hz hx_ hlt hyb) hP hD [] rfl rfl ⟨oldY.call hO hS (va_free (wc := []) hD hS hA [] rfl), va_T.narrow (hs0.at hS).2 (va_free (wc := []) hD hS hA [] rfl)⟩ q1385 q1386 q98 q1387 xo_J6_charAt ⟨rfl, rfl⟩ ⟨Nat.le_of_ble_eq_true rfl, Nat.le_of_ble_eq_true rfl⟩ hl.1 (Nat.le_of_ble_eq_true rfl) dJ3_charAt_12 ⟨Nat.le_of_ble_eq_true rfl, Nat.le_of_ble_eq_true rfl⟩ rfl) (fun u2 r_ H locs hw hP hD hS hk => ?_)
  obtain ⟨rfl, eu2⟩ := hw
  replace hP : va_P D vwCl [] H := hP.sub [] rfl
  replace hD : va_D A [] := hD.sub [] (by decide) rfl
  exact xret_n hx hb hr hlocks (Nat.le_of_ble_eq_true rfl) (Nat.le_of_ble_eq_true rfl) hS.2.2 dJ3_charAt_15 (by rw [eu2]; exact pk_nc _) (fun t ht => ⟨⟨u2, u2, rfl, ⟨rfl, (by subst eu2; subst eu1; exact rfl)⟩, by rw [ht]; exact hP, hD⟩, hS.F ht⟩)
