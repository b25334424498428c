set_option maxRecDepth 100000
def f_J4_checkFromIndexSize (x : Int32) : Int32 :=
  x
abbrev q_J4_checkFromIndexSize (D : va_G) (k : KK) (x : Int32) (y : Int32) (z : Int32) (yn : Nat) (fm : Nat) (A : Nat → Prop) : Array Value → State → Outcome → State → Prop := va_Qi (fun (r_ : Int32) (u : Int32) => r_ = u ∧ u = f_J4_checkFromIndexSize x) (bx D (fun u => []) A) A
abbrev rm_J4_checkFromIndexSize : Room := { frames := 1, cells := 0, slots := 0, locals := 40 }
theorem xo_J4_checkFromIndexSize : xok yJ4_checkFromIndexSize 4 := by unfold xok; decide +kernel
set_option maxHeartbeats 8000000 in
theorem m_J4_checkFromIndexSize (l : Launch) (D : va_G) (k : KK) (sz : Nat) (x : Int32) (y : Int32) (z : Int32) (yn : Nat) (fm : Nat) (hx_ : x = 0) (hy_ : y = nI yn) (hz_ : z = nI 8) (hn8 : yn ≤ 8) : Met l yJ4_checkFromIndexSize (ws_ yJ4_checkFromIndexSize cJ4_checkFromIndexSize 4 (some .int)) rm_J4_checkFromIndexSize (pcx D k [.int x, .int y, .int z, .ref fm] sz [] (fun _ => True)) (q_J4_checkFromIndexSize D k x y z yn fm (va_A [] sz)) 0 0 (va_A [] sz) := by
  refine Met.start (Qc := q_J4_checkFromIndexSize D k x y z yn fm) (by decide) (Nat.le_of_ble_eq_true rfl) ?_
  intro p e s m below meth c A hx hb hr hlocks hml hown hin hts hg hP hD hA hAn hS hY hsz ls hl
  have hown : s.vm.findClass RJ4 = some m.cls := hown
  have hl : lv_has ls 4 [(0, .int x), (1, .int y), (2, .int z), (3, .ref fm)] := hl
  refine lv_iload_n hx hb dJ4_checkFromIndexSize_0 rfl (lv_at hl 2 rfl) ?_
  refine lv_iload_n hx hb dJ4_checkFromIndexSize_1 rfl (lv_at hl 0 rfl) ?_
  refine lv_ior hx hb dJ4_checkFromIndexSize_2 ?_
  refine lv_iload_n hx hb dJ4_checkFromIndexSize_3 rfl (lv_at hl 1 rfl) ?_
  refine lv_ior hx hb dJ4_checkFromIndexSize_4 ?_
  refine lv_if_lt (tgt := 15) hx hb dJ4_checkFromIndexSize_5 (by decide) (fun c => absurd c (or8 hz_ hx_ hy_ hn8)) (fun _ => ?_)
  refine lv_iload_n hx hb dJ4_checkFromIndexSize_8 rfl (lv_at hl 1 rfl) ?_
  refine lv_iload_n hx hb dJ4_checkFromIndexSize_9 rfl (lv_at hl 2 rfl) ?_
  refine lv_iload_n hx hb dJ4_checkFromIndexSize_10 rfl (lv_at hl 0 rfl) ?_
  refine lv_isub hx hb dJ4_checkFromIndexSize_11 ?_
  refine lv_icmp_le (tgt := 23) hx hb dJ4_checkFromIndexSize_12 (by decide) (fun _ => ?_) (fun c => absurd (sub8 hz_ hx_ hy_ hn8) c)
  refine lv_iload_n hx hb dJ4_checkFromIndexSize_23 rfl (lv_at hl 0 rfl) ?_
  exact xret_i hx hb hr hlocks (Nat.le_of_ble_eq_true rfl) (Nat.le_of_ble_eq_true rfl) hS.2.2 dJ4_checkFromIndexSize_24 (fun t ht => ⟨⟨x, x, rfl, ⟨rfl, rfl⟩, by rw [ht]; exact hP, hD⟩, hS.F ht⟩)

def f_J4_checkFromIndexSizeN (x : Int32) : Int32 :=
  x
abbrev q_J4_checkFromIndexSizeN (D : va_G) (k : KK) (x : Int32) (y : Int32) (z : Int32) (yn : Nat) (A : Nat → Prop) : Array Value → State → Outcome → State → Prop := va_Qi (fun (r_ : Int32) (u : Int32) => r_ = u ∧ u = f_J4_checkFromIndexSizeN x) (bx D (fun u => []) A) A
abbrev rm_J4_checkFromIndexSizeN : Room := { frames := 1, cells := 0, slots := 0, locals := 40 }
set_option maxHeartbeats 8000000 in
theorem m_J4_checkFromIndexSizeN (l : Launch) (D : va_G) (k : KK) (sz : Nat) (x : Int32) (y : Int32) (z : Int32) (yn : Nat) (hx_ : x = 0) (hy_ : y = nI yn) (hz_ : z = nI 8) (hn8 : yn ≤ 8) : Met l yJ4_checkFromIndexSize (ws_ yJ4_checkFromIndexSize cJ4_checkFromIndexSize 4 (some .int)) rm_J4_checkFromIndexSizeN (pcx D k [.int x, .int y, .int z, .null] sz [] (fun _ => True)) (q_J4_checkFromIndexSizeN D k x y z yn (va_A [] sz)) 0 0 (va_A [] sz) := by
  refine Met.start (Qc := q_J4_checkFromIndexSizeN D k x y z yn) (by decide) (Nat.le_of_ble_eq_true rfl) ?_
  intro p e s m below meth c A hx hb hr hlocks hml hown hin hts hg hP hD hA hAn hS hY hsz ls hl
  have hown : s.vm.findClass RJ4 = some m.cls := hown
  have hl : lv_has ls 4 [(0, .int x), (1, .int y), (2, .int z), (3, .null)] := hl
  refine lv_iload_n hx hb dJ4_checkFromIndexSize_0 rfl (lv_at hl 2 rfl) ?_
  refine lv_iload_n hx hb dJ4_checkFromIndexSize_1 rfl (lv_at hl 0 rfl) ?_
  refine lv_ior hx hb dJ4_checkFromIndexSize_2 ?_
  refine lv_iload_n hx hb dJ4_checkFromIndexSize_3 rfl (lv_at hl 1 rfl) ?_
  refine lv_ior hx hb dJ4_checkFromIndexSize_4 ?_
  refine lv_if_lt (tgt := 15) hx hb dJ4_checkFromIndexSize_5 (by decide) (fun c => absurd c (or8 hz_ hx_ hy_ hn8)) (fun _ => ?_)
  refine lv_iload_n hx hb dJ4_checkFromIndexSize_8 rfl (lv_at hl 1 rfl) ?_
  refine lv_iload_n hx hb dJ4_checkFromIndexSize_9 rfl (lv_at hl 2 rfl) ?_
  refine lv_iload_n hx hb dJ4_checkFromIndexSize_10 rfl (lv_at hl 0 rfl) ?_
  refine lv_isub hx hb dJ4_checkFromIndexSize_11 ?_
  refine lv_icmp_le (tgt := 23) hx hb dJ4_checkFromIndexSize_12 (by decide) (fun _ => ?_) (fun c => absurd (sub8 hz_ hx_ hy_ hn8) c)
  refine lv_iload_n hx hb dJ4_checkFromIndexSize_23 rfl (lv_at hl 0 rfl) ?_
  exact xret_i hx hb hr hlocks (Nat.le_of_ble_eq_true rfl) (Nat.le_of_ble_eq_true rfl) hS.2.2 dJ4_checkFromIndexSize_24 (fun t ht => ⟨⟨x, x, rfl, ⟨rfl, rfl⟩, by rw [ht]; exact hP, hD⟩, hS.F ht⟩)

def f_J3_checkBoundsOffCount (x : Int32) : Int32 :=
  let u2 := f_J4_checkFromIndexSizeN x
  u2
abbrev q_J3_checkBoundsOffCount (D : va_G) (k : KK) (x : Int32) (y : Int32) (z : Int32) (yn : Nat) (A : Nat → Prop) : Array Value → State → Outcome → State → Prop := va_Qi (fun (r_ : Int32) (u : Int32) => r_ = u ∧ u = f_J3_checkBoundsOffCount x) (bx D (fun u => []) A) A
abbrev rm_J3_checkBoundsOffCount : Room := { frames := 2, cells := 0, slots := 0, locals := 80 }
theorem xo_J3_checkBoundsOffCount : xok yJ3_checkBoundsOffCount 3 := by unfold xok; decide +kernel
set_option maxHeartbeats 8000000 in
theorem m_J3_checkBoundsOffCount (l : Launch) (D : va_G) (k : KK) (sz : Nat) (x : Int32) (y : Int32) (z : Int32) (yn : Nat) (hz : cz k) (hx_ : x = 0) (hy_ : y = nI yn) (hz_ : z = nI 8) (hn8 : yn ≤ 8) : Met l yJ3_checkBoundsOffCount (ws_ yJ3_checkBoundsOffCount cJ3_checkBoundsOffCount 3 (some .int)) rm_J3_checkBoundsOffCount (pcx D k [.int x, .int y, .int z] sz [] (fun H => oldY k (va_A [] sz) H)) (q_J3_checkBoundsOffCount D k x y z yn (va_A [] sz)) 0 0 (va_A [] sz) := by
  refine Met.start (Qc := q_J3_checkBoundsOffCount D k x y z yn) (by decide) (Nat.le_of_ble_eq_true rfl) ?_
  intro p e s m below meth c A hx hb hr hlocks hml hown hin hts hg hP hD hA hAn hS hY hsz ls hl
  have hown : s.vm.findClass RJ3 = some m.cls := hown
  have hl : lv_has ls 3 [(0, .int x), (1, .int y), (2, .int z)] := hl
  have hO := oldY.mono hY hAn
  refine lv_iload_n hx hb dJ3_checkBoundsOffCount_0 rfl (lv_at hl 0 rfl) ?_
  refine lv_iload_n hx hb dJ3_checkBoundsOffCount_1 rfl (lv_at hl 1 rfl) ?_
  refine lv_iload_n hx hb dJ3_checkBoundsOffCount_2 rfl (lv_at hl 2 rfl) ?_
  refine va_Zq.two (va_Zq.old hz.2.2.2.2.2.1 hg hO) (fun ht1 => ?_) (fun t1 ht1 => ?_)
  · refine va_gets hx hb ht1 hS hown (hts _ q590) (fun _ h9 => h9) dJ3_checkBoundsOffCount_3 ?_
    refine xc_i (wc := []) (wr := []) hP hD hS hA [] [] rfl rfl rfl (by decide) (xrS ⟨hx, hb, hml, hown, hts⟩ hg (m_J4_checkFromIndexSizeN l D k _ x y z yn hx_ hy_ hz_ hn8) hP hD [] rfl rfl trivial q592 q593 q96 q594 xo_J4_checkFromIndexSize ⟨rfl, rfl⟩ ⟨Nat.le_of_ble_eq_true rfl, Nat.le_of_ble_eq_true rfl⟩ hl.1 (Nat.le_of_ble_eq_true rfl) dJ3_checkBoundsOffCount_6 ⟨Nat.le_of_ble_eq_true rfl, Nat.le_of_ble_eq_true rfl⟩ rfl) (fun u2 r_ H locs hw hP hD hS hk => ?_)
    obtain ⟨rfl, eu2⟩ := hw
    replace hP : va_P D vwCl [] H := hP.sub [] rfl
    replace hD : va_D A [] := hD.sub [] (by decide) rfl
    exact xret_i hx hb hr hlocks (Nat.le_of_ble_eq_true rfl) (Nat.le_of_ble_eq_true rfl) hS.2.2 dJ3_checkBoundsOffCount_9 (fun t ht => ⟨⟨u2, u2, rfl, ⟨rfl, (by subst eu2; exact rfl)⟩, by rw [ht]; exact hP, hD⟩, hS.F ht⟩)
  · refine va_gets hx hb ht1 hS hown (hts _ q590) (fun _ h9 => h9) dJ3_checkBoundsOffCount_3 ?_
    refine xc_i (wc := []) (wr := []) hP hD hS hA [] [] rfl rfl rfl (by decide) (xrS ⟨hx, hb, hml, hown, hts⟩ hg (m_J4_checkFromIndexSize l D k _ x y z yn t1 hx_ hy_ hz_ hn8) hP hD [] rfl rfl trivial q592 q593 q96 q594 xo_J4_checkFromIndexSize ⟨rfl, rfl⟩ ⟨Nat.le_of_ble_eq_true rfl, Nat.le_of_ble_eq_true rfl⟩ hl.1 (Nat.le_of_ble_eq_true rfl) dJ3_checkBoundsOffCount_6 ⟨Nat.le_of_ble_eq_true rfl, Nat.le_of_ble_eq_true rfl⟩ rfl) (fun u3 r_ H locs hw hP hD hS hk => ?_)
    obtain ⟨rfl, eu3⟩ := hw
    replace hP : va_P D vwCl [] H := hP.sub [] rfl
    replace hD : va_D A [] := hD.sub [] (by decide) rfl
    exact xret_i hx hb hr hlocks (Nat.le_of_ble_eq_true rfl) (Nat.le_of_ble_eq_true rfl) hS.2.2 dJ3_checkBoundsOffCount_9 (fun t ht => ⟨⟨u3, u3, rfl, ⟨rfl, (by subst eu3; exact rfl)⟩, by rw [ht]; exact hP, hD⟩, hS.F ht⟩)

def f_J3_rangeCheck (x : Int32) : Option Nat :=
  let u1 := f_J3_checkBoundsOffCount x
  none
abbrev q_J3_rangeCheck (D : va_G) (k : KK) (ca : Nat) (lf : Nat → Int32) (x : Int32) (y : Int32) (yn : Nat) (A : Nat → Prop) : Array Value → State → Outcome → State → Prop := va_Qq (fun (r_ : Option Nat) (u : Option Nat) => r_ = u ∧ u = f_J3_rangeCheck x) (bx D (fun u => [(ca, aC k 8 lf)]) A) A
abbrev rm_J3_rangeCheck : Room := { frames := 3, cells := 0, slots := 0, locals := 120 }
theorem xo_J3_rangeCheck : xok yJ3_rangeCheck 3 := by unfold xok; decide +kernel
set_option maxHeartbeats 8000000 in
theorem m_J3_rangeCheck (l : Launch) (D : va_G) (k : KK) (sz : Nat) (ca : Nat) (lf : Nat → Int32) (x : Int32) (y : Int32) (yn : Nat) (hz : cz k) (hx_ : x = 0) (hy_ : y = nI yn) (hn8 : yn ≤ 8) : Met l yJ3_rangeCheck (ws_ yJ3_rangeCheck cJ3_rangeCheck 3 (some (.object "java/lang/Void"))) rm_J3_rangeCheck (pcx D k [.ref ca, .int x, .int y] sz [(ca, aC k 8 lf)] (fun H => oldY k (va_A [(ca, aC k 8 lf)] sz) H)) (q_J3_rangeCheck D k ca lf x y yn (va_A [(ca, aC k 8 lf)] sz)) 0 0 (va_A [(ca, aC k 8 lf)] sz) := by
  refine Met.start (Qc := q_J3_rangeCheck D k ca lf x y yn) (by decide) (Nat.le_of_ble_eq_true rfl) ?_
  intro p e s m below meth c A hx hb hr hlocks hml hown hin hts hg hP hD hA hAn hS hY hsz ls hl
  have hown : s.vm.findClass RJ3 = some m.cls := hown
  have hl : lv_has ls 3 [(0, .ref ca), (1, .int x), (2, .int y)] := hl
  have hO := oldY.mono hY hAn
  refine lv_iload_n hx hb dJ3_rangeCheck_0 rfl (lv_at hl 1 rfl) ?_
  refine lv_iload_n hx hb dJ3_rangeCheck_1 rfl (lv_at hl 2 rfl) ?_
  refine lv_aload_n hx hb dJ3_rangeCheck_2 rfl (lv_at hl 0 rfl) ?_
  refine va_alen (v := nI 8) hx hb hg.1 hP 0 2 rfl rfl rfl dJ3_rangeCheck_3 ?_
  refine xc_i (wc := []) (wr := [(ca, aC k 8 lf)]) hP hD hS hA [] [0] rfl rfl rfl (by decide) (xrS ⟨hx, hb, hml, hown, hts⟩ hg (m_J3_checkBoundsOffCount l D k _ x y (nI 8) yn hz hx_ hy_ rfl hn8) hP hD [] rfl rfl (oldY.call hO hS (va_free (wc := []) hD hS hA [] rfl)) q587 q588 q95 q589 xo_J3_checkBoundsOffCount ⟨rfl, rfl⟩ ⟨Nat.le_of_ble_eq_true rfl, Nat.le_of_ble_eq_true rfl⟩ hl.1 (Nat.le_of_ble_eq_true rfl) dJ3_rangeCheck_4 ⟨Nat.le_of_ble_eq_true rfl, Nat.le_of_ble_eq_true rfl⟩ rfl) (fun u1 r_ H locs hw hP hD hS hk => ?_)
  obtain ⟨rfl, eu1⟩ := hw
  replace hP : va_P D vwCl [(ca, aC k 8 lf)] H := hP.sub [0] rfl
  replace hD : va_D A [(ca, aC k 8 lf)] := hD.sub [0] (by decide) rfl
  refine lv_pop hx hb dJ3_rangeCheck_7 rfl ?_
  refine lv_null hx hb dJ3_rangeCheck_8 ?_
  exact xret_q hx hb hr hlocks (Nat.le_of_ble_eq_true rfl) (Nat.le_of_ble_eq_true rfl) hS.2.2 dJ3_rangeCheck_9 rfl (fun t ht => ⟨⟨none, none, rfl, ⟨rfl, (by subst eu1; exact rfl)⟩, by rw [ht]; exact hP, hD⟩, hS.F ht⟩)

def f_J5_coderFromArrayLen (y : Int32) (yn : Nat) : Int32 :=
  ((((y - (nI yn)).toUInt32 >>> ((31 : Int32).toUInt32 &&& Int32.toUInt32 31)).toInt32).toInt8.toInt32)
abbrev q_J5_coderFromArrayLen (D : va_G) (k : KK) (ba : Nat) (bf : Nat → Int32) (y : Int32) (yn : Nat) (A : Nat → Prop) : Array Value → State → Outcome → State → Prop := va_Qi (fun (r_ : Int32) (u : Int32) => r_ = u ∧ u = f_J5_coderFromArrayLen y yn) (bx D (fun u => [(ba, aB k yn bf)]) A) A
abbrev rm_J5_coderFromArrayLen : Room := { frames := 1, cells := 0, slots := 0, locals := 40 }
theorem xo_J5_coderFromArrayLen : xok yJ5_coderFromArrayLen 2 := by unfold xok; decide +kernel
set_option maxHeartbeats 8000000 in
theorem m_J5_coderFromArrayLen (l : Launch) (D : va_G) (k : KK) (sz : Nat) (ba : Nat) (bf : Nat → Int32) (y : Int32) (yn : Nat) (hy_ : y = nI yn) : Met l yJ5_coderFromArrayLen (ws_ yJ5_coderFromArrayLen cJ5_coderFromArrayLen 2 (some .byte)) rm_J5_coderFromArrayLen (pcx D k [.ref ba, .int y] sz [(ba, aB k yn bf)] (fun _ => True)) (q_J5_coderFromArrayLen D k ba bf y yn (va_A [(ba, aB k yn bf)] sz)) 0 0 (va_A [(ba, aB k yn bf)] sz) := by
  refine Met.start (Qc := q_J5_coderFromArrayLen D k ba bf y yn) (by decide) (Nat.le_of_ble_eq_true rfl) ?_
  intro p e s m below meth c A hx hb hr hlocks hml hown hin hts hg hP hD hA hAn hS hY hsz ls hl
  have hown : s.vm.findClass RJ5 = some m.cls := hown
  have hl : lv_has ls 2 [(0, .ref ba), (1, .int y)] := hl
  refine lv_iload_n hx hb dJ5_coderFromArrayLen_0 rfl (lv_at hl 1 rfl) ?_
  refine lv_aload_n hx hb dJ5_coderFromArrayLen_1 rfl (lv_at hl 0 rfl) ?_
  refine va_alen (v := nI yn) hx hb hg.1 hP 0 1 rfl rfl rfl dJ5_coderFromArrayLen_2 ?_
  refine lv_isub hx hb dJ5_coderFromArrayLen_3 ?_
  refine lv_bipush (v := 31) hx hb dJ5_coderFromArrayLen_4 cb_31 ?_
  refine lv_iushr hx hb dJ5_coderFromArrayLen_6 rfl ?_
  refine lv_i2b hx hb dJ5_coderFromArrayLen_7 rfl ?_
  exact xret_n hx hb hr hlocks (Nat.le_of_ble_eq_true rfl) (Nat.le_of_ble_eq_true rfl) hS.2.2 dJ5_coderFromArrayLen_8 (by rw [cod8 hy_]; rfl) (fun t ht => ⟨⟨((((y - (nI yn)).toUInt32 >>> ((31 : Int32).toUInt32 &&& Int32.toUInt32 31)).toInt32).toInt8.toInt32), ((((y - (nI yn)).toUInt32 >>> ((31 : Int32).toUInt32 &&& Int32.toUInt32 31)).toInt32).toInt8.toInt32), rfl, ⟨rfl, rfl⟩, by rw [ht]; exact hP, hD⟩, hS.F ht⟩)

def f_J5_compress_2_l3 (lf : Nat → Int32) (i1 : Nat) (X1 : (Int32) × (Int32) × (Nat → Int32)) : (Int32) × (Int32) × (Nat → Int32) :=
  let x17 := (lf i1)
  let x18 := (x17.toInt8.toInt32)
  let f19 := upd X1.2.2 i1 (vp_nar .byte x18)
  let x20 := X1.1 + 1
  let x21 := X1.2.1 + 1
  (x20, x21, f19)
def f_J5_compress_2 (lf : Nat → Int32) (bf : Nat → Int32) (x : Int32) (z : Int32) (y : Int32) (yn : Nat) : Int32 × (Nat → Int32) :=
  let X1 := itN (f_J5_compress_2_l3 lf) yn (x, z, bf)
  (y, X1.2.2)
abbrev q_J5_compress_2 (D : va_G) (k : KK) (ca : Nat) (lf : Nat → Int32) (ba : Nat) (bf : Nat → Int32) (x : Int32) (z : Int32) (y : Int32) (yn : Nat) (A : Nat → Prop) : Array Value → State → Outcome → State → Prop := va_Qi (fun (r_ : Int32) (u : Int32 × (Nat → Int32)) => r_ = u.1 ∧ u = f_J5_compress_2 lf bf x z y yn) (bx D (fun u => [(ca, aC k 8 lf), (ba, aB k yn u.2)]) A) A
abbrev rm_J5_compress_2 : Room := { frames := 1, cells := 0, slots := 0, locals := 40 }
theorem xo_J5_compress_2 : xok yJ5_compress_2 5 := by unfold xok; decide +kernel
set_option maxHeartbeats 8000000 in
theorem m_J5_compress_2 (l : Launch) (D : va_G) (k : KK) (sz : Nat) (ca : Nat) (lf : Nat → Int32) (ba : Nat) (bf : Nat → Int32) (x : Int32) (z : Int32) (y : Int32) (yn : Nat) (hx_ : x = 0) (hz_ : z = 0) (hy_ : y = nI yn) (hn8 : yn ≤ 8) (hle : ∀ j, j < yn → lf j ≤ 255) : Met l yJ5_compress_2 (ws_ yJ5_compress_2 cJ5_compress_2 7 (some .int)) rm_J5_compress_2 (pcx D k [.ref ca, .int x, .ref ba, .int z, .int y] sz [(ca, aC k 8 lf), (ba, aB k yn bf)] (fun _ => True)) (q_J5_compress_2 D k ca lf ba bf x z y yn (va_A [(ca, aC k 8 lf), (ba, aB k yn bf)] sz)) 0 0 (va_A [(ca, aC k 8 lf), (ba, aB k yn bf)] sz) := by
  refine Met.start (Qc := q_J5_compress_2 D k ca lf ba bf x z y yn) (by decide) (Nat.le_of_ble_eq_true rfl) ?_
  intro p e s m below meth c A hx hb hr hlocks hml hown hin hts hg hP hD hA hAn hS hY hsz ls hl
  have hown : s.vm.findClass RJ5 = some m.cls := hown
  have hl : lv_has ls 7 [(0, .ref ca), (1, .int x), (2, .ref ba), (3, .int z), (4, .int y)] := hl
  refine lv_iconst (v := 0) hx hb dJ5_compress_2_0 ci_0 ?_
  refine lv_istore (lv' := [(5, .int 0), (0, .ref ca), (1, .int x), (2, .ref ba), (3, .int z), (4, .int y)]) hx hb dJ5_compress_2_1 hl (Nat.le_of_ble_eq_true rfl) rfl (fun ls hl => ?_)
  have loop1 : ∀ (n1 i1 : Nat) (X1 : (Int32) × (Int32) × (Nat → Int32)) (H : Heap) (locs : List Loc) (ls : Array Slot), i1 + n1 = yn → X1 = itN (f_J5_compress_2_l3 lf) i1 (x, z, bf) → va_P D vwCl [(ca, aC k 8 lf), (ba, aB k yn X1.2.2)] H → va_D A [(ca, aC k 8 lf), (ba, aB k yn X1.2.2)] → va_S A s.heap H locs → lv_has ls 7 [(5, .int (nI i1)), (0, .ref ca), (1, .int X1.1), (2, .ref ba), (3, .int X1.2.1), (4, .int y)] → W p l e rm_J5_compress_2 s m ([.ref ca, .int x, .ref ba, .int z, .int y] : List Value).toArray below meth c H locs 0 0 (MQ below (q_J5_compress_2 D k ca lf ba bf x z y yn A) ([.ref ca, .int x, .ref ba, .int z, .int y] : List Value).toArray s 0 0 A) (F0 m 3 ls []) := by
    intro n1
    induction n1 with
    | zero =>
      intro i1 X1 H locs ls hn1 eX1 hP hD hS hl
      have hi1 : i1 = yn := by omega
      rw [hi1] at eX1
      refine lv_iload hx hb dJ5_compress_2_3 (lv_at hl 0 rfl) ?_
      refine lv_iload hx hb dJ5_compress_2_5 (lv_at hl 5 rfl) ?_
      refine lv_icmp_ge (tgt := 44) hx hb dJ5_compress_2_7 (by decide) (fun _ => ?_) (fun c => absurd (xle_t hy_ rfl (by omega) (by omega)) c)
      refine lv_iload hx hb dJ5_compress_2_44 (lv_at hl 5 rfl) ?_
      exact xret_i hx hb hr hlocks (Nat.le_of_ble_eq_true rfl) (Nat.le_of_ble_eq_true rfl) hS.2.2 dJ5_compress_2_46 (fun t ht => ⟨⟨y, (y, X1.2.2), rfl, ⟨rfl, (by subst eX1; exact rfl)⟩, by rw [ht]; exact hP, hD⟩, hS.F ht⟩)
    | succ n1 ih1 =>
      intro i1 X1 H locs ls hn1 eX1 hP hD hS hl
      have hi1 : i1 < yn := by omega
      refine lv_iload hx hb dJ5_compress_2_3 (lv_at hl 0 rfl) ?_
      refine lv_iload hx hb dJ5_compress_2_5 (lv_at hl 5 rfl) ?_
      refine lv_icmp_ge (tgt := 44) hx hb dJ5_compress_2_7 (by decide) (fun c => absurd c (xle_f hy_ rfl (by omega) (by omega))) (fun _ => ?_)
      have hg1 : X1.1 = nI i1 ∧ X1.2.1 = nI i1 := by
        rw [eX1]
        exact itN_inv (P := fun i (Y : (Int32) × (Int32) × (Nat → Int32)) => Y.1 = nI i ∧ Y.2.1 = nI i) (N := yn) ⟨hx_, hz_⟩ (fun i Y hi hY => ⟨by show Y.1 + 1 = nI (i + 1); rw [hY.1]; exact (nI_succ _).symm, by show Y.2.1 + 1 = nI (i + 1); rw [hY.2]; exact (nI_succ _).symm⟩) i1 (by omega)
      refine lv_aload_n hx hb dJ5_compress_2_10 rfl (lv_at hl 1 rfl) ?_
      refine lv_iload_n hx hb dJ5_compress_2_11 rfl (lv_at hl 2 rfl) ?_
      refine xa_cald hx hb hg hP 0 rfl hg1.1 (by first | omega | exact Nat.lt_of_lt_of_le (Nat.mod_lt _ (by omega)) (by omega)) (by omega) dJ5_compress_2_12 ?_
      refine lv_topi (fun x17 ex17 => ?_)
      refine lv_istore (lv' := [(6, .int x17), (5, .int (nI i1)), (0, .ref ca), (1, .int X1.1), (2, .ref ba), (3, .int X1.2.1), (4, .int y)]) hx hb dJ5_compress_2_13 hl (Nat.le_of_ble_eq_true rfl) rfl (fun ls hl => ?_)
      refine lv_iload hx hb dJ5_compress_2_15 (lv_at hl 0 rfl) ?_
      refine lv_sipush (v := 255) hx hb dJ5_compress_2_17 cs_255 ?_
      refine lv_icmp_le (tgt := 26) hx hb dJ5_compress_2_20 (by decide) (fun _ => ?_) (fun c => absurd (by rw [ex17]; exact hle _ (by omega)) c)
      refine lv_aload_n hx hb dJ5_compress_2_26 rfl (lv_at hl 4 rfl) ?_
      refine lv_iload_n hx hb dJ5_compress_2_27 rfl (lv_at hl 5 rfl) ?_
      refine lv_iload hx hb dJ5_compress_2_28 (lv_at hl 0 rfl) ?_
      refine lv_i2b hx hb dJ5_compress_2_30 rfl ?_
      refine lv_topi (fun x18 ex18 => ?_)
      refine xa_bast hx hb hg hP hD hS 1 rfl hg1.2 (by omega) (by omega) dJ5_compress_2_31 (fun f19 H locs ef19 hP hD hS => ?_)
      replace hP : va_P D vwCl [(ca, aC k 8 lf), (ba, aB k yn f19)] H := hP
      replace hD : va_D A [(ca, aC k 8 lf), (ba, aB k yn f19)] := hD
      obtain ⟨x20, ex20⟩ : ∃ z : Int32, z = X1.1 + 1 := ⟨_, rfl⟩
      refine lv_iinc (v := x20) (lv' := [(1, .int x20), (6, .int x17), (5, .int (nI i1)), (0, .ref ca), (2, .ref ba), (3, .int X1.2.1), (4, .int y)]) hx hb dJ5_compress_2_32 hl (k := 3) rfl (by rw [ex20, ci_1]) (Nat.le_of_ble_eq_true rfl) rfl (fun ls hl => ?_)
      obtain ⟨x21, ex21⟩ : ∃ z : Int32, z = X1.2.1 + 1 := ⟨_, rfl⟩
      refine lv_iinc (v := x21) (lv' := [(3, .int x21), (1, .int x20), (6, .int x17), (5, .int (nI i1)), (0, .ref ca), (2, .ref ba), (4, .int y)]) hx hb dJ5_compress_2_35 hl (k := 5) rfl (by rw [ex21, ci_1]) (Nat.le_of_ble_eq_true rfl) rfl (fun ls hl => ?_)
      refine lv_iinc (v := (nI (i1 + 1))) (lv' := [(5, .int (nI (i1 + 1))), (3, .int x21), (1, .int x20), (6, .int x17), (0, .ref ca), (2, .ref ba), (4, .int y)]) hx hb dJ5_compress_2_38 hl (k := 3) rfl (xinc1 _) (Nat.le_of_ble_eq_true rfl) rfl (fun ls hl => ?_)
      refine lv_goto (tgt := 3) hx hb dJ5_compress_2_41 (by decide) ?_
      exact ih1 (i1 + 1) (x20, x21, f19) _ _ _ (by omega) (Eq.trans (by subst ex21; subst ex20; subst ef19; subst ex18; subst ex17; exact rfl) (congrArg (f_J5_compress_2_l3 lf i1) eX1)) hP hD hS (lv_sub hl [0, 4, 2, 5, 1, 6] rfl)
  exact loop1 yn 0 (x, z, bf) _ _ _ (by omega) rfl hP hD hS (by have h := (lv_sub hl [0, 1, 2, 3, 4, 5] rfl); exact h)

def f_J5_compress (lf : Nat → Int32) (x : Int32) (y : Int32) (yn : Nat) : (Nat → Int32) :=
  let u2 := f_J5_compress_2 lf (fun _ => 0) x 0 y yn
  u2.2
abbrev q_J5_compress (D : va_G) (k : KK) (ca : Nat) (lf : Nat → Int32) (x : Int32) (y : Int32) (yn : Nat) (A : Nat → Prop) : Array Value → State → Outcome → State → Prop := va_Qq (fun (r_ : Option Nat) (ug : ((Nat → Int32)) × (Nat)) => r_ = some ug.2 ∧ ug.1 = f_J5_compress lf x y yn) (bx D (fun ug => [(ca, aC k 8 lf), (ug.2, aB k yn ug.1)]) A) A
abbrev rm_J5_compress : Room := { frames := 2, cells := 1, slots := 8, locals := 80 }
theorem xo_J5_compress : xok yJ5_compress 3 := by unfold xok; decide +kernel
set_option maxHeartbeats 8000000 in
theorem m_J5_compress (l : Launch) (D : va_G) (k : KK) (sz : Nat) (ca : Nat) (lf : Nat → Int32) (x : Int32) (y : Int32) (yn : Nat) (hx_ : x = 0) (hy_ : y = nI yn) (hn8 : yn ≤ 8) (hle : ∀ j, j < yn → lf j ≤ 255) : Met l yJ5_compress (ws_ yJ5_compress cJ5_compress 6 (some (.array .byte))) rm_J5_compress (pcx D k [.ref ca, .int x, .int y] sz [(ca, aC k 8 lf)] (fun _ => True)) (q_J5_compress D k ca lf x y yn (va_A [(ca, aC k 8 lf)] sz)) 1 8 (va_A [(ca, aC k 8 lf)] sz) := by
  refine Met.start (Qc := q_J5_compress D k ca lf x y yn) (by decide) (Nat.le_of_ble_eq_true rfl) ?_
  intro p e s m below meth c A hx hb hr hlocks hml hown hin hts hg hP hD hA hAn hS hY hsz ls hl
  have hown : s.vm.findClass RJ5 = some m.cls := hown
  have hl : lv_has ls 6 [(0, .ref ca), (1, .int x), (2, .int y)] := hl
  refine lv_iload_n hx hb dJ5_compress_0 rfl (lv_at hl 2 rfl) ?_
  refine xn_b hx hb (hts _ q194) hg hP hD hS hA hy_ (by omega) (Nat.le_of_ble_eq_true rfl) (by simp only [rm_J5_compress]; omega) dJ5_compress_1 (fun q1 H hP hD hS => ?_)
  replace hP : va_P D vwCl [(ca, aC k 8 lf), (q1, aB k yn (fun _ => 0))] H := hP
  replace hD : va_D A [(ca, aC k 8 lf), (q1, aB k yn (fun _ => 0))] := hD
  refine W.cs (cells' := 1) (slots' := (0 + yn)) rfl rfl ?_
  refine lv_astore_n (lv' := [(3, .ref q1), (0, .ref ca), (1, .int x), (2, .int y)]) hx hb dJ5_compress_3 rfl hl (Nat.le_of_ble_eq_true rfl) rfl (fun ls hl => ?_)
  refine lv_aload_n hx hb dJ5_compress_4 rfl (lv_at hl 1 rfl) ?_
  refine lv_iload_n hx hb dJ5_compress_5 rfl (lv_at hl 2 rfl) ?_
  refine lv_aload_n hx hb dJ5_compress_6 rfl (lv_at hl 0 rfl) ?_
  refine lv_iconst (v := 0) hx hb dJ5_compress_7 ci_0 ?_
  refine lv_iload_n hx hb dJ5_compress_8 rfl (lv_at hl 3 rfl) ?_
  refine xc_i (wc := [(ca, aC k 8 lf), (q1, aB k yn (fun _ => 0))]) (wr := []) hP hD hS hA [0, 1] [] rfl rfl rfl (by decide) (xrS ⟨hx, hb, hml, hown, hts⟩ hg (m_J5_compress_2 l D k _ ca lf q1 (fun _ => 0) x 0 y yn hx_ rfl hy_ hn8 hle) hP hD [0, 1] rfl rfl trivial q605 q606 q97 q607 xo_J5_compress_2 ⟨rfl, rfl⟩ ⟨Nat.le_of_ble_eq_true rfl, Nat.le_of_ble_eq_true rfl⟩ hl.1 (Nat.le_of_ble_eq_true rfl) dJ5_compress_9 ⟨by simp only [rm_J5_compress]; omega, by simp only [rm_J5_compress]; omega⟩ rfl) (fun r_ u2 H locs hw hP hD hS hk => ?_)
  obtain ⟨rfl, eu2⟩ := hw
  replace hP : va_P D vwCl [(ca, aC k 8 lf), (q1, aB k yn u2.2)] H := hP.sub [0, 1] rfl
  replace hD : va_D A [(ca, aC k 8 lf), (q1, aB k yn u2.2)] := hD.sub [0, 1] (by decide) rfl
  refine lv_istore (lv' := [(4, .int u2.1), (3, .ref q1), (0, .ref ca), (1, .int x), (2, .int y)]) hx hb dJ5_compress_12 hl (Nat.le_of_ble_eq_true rfl) rfl (fun ls hl => ?_)
  refine lv_iload hx hb dJ5_compress_14 (lv_at hl 0 rfl) ?_
  refine lv_iload_n hx hb dJ5_compress_16 rfl (lv_at hl 4 rfl) ?_
  refine lv_icmp_eq (tgt := 57) hx hb dJ5_compress_17 (by decide) (fun _ => ?_) (fun c => absurd (by rw [eu2]; rfl) c)
  refine lv_aload_n hx hb dJ5_compress_57 rfl (lv_at hl 1 rfl) ?_
  exact xret_qa hx hb hr hlocks (by omega) (by omega) hS.2.2 dJ5_compress_58 rfl (fun t ht => ⟨⟨some q1, (u2.2, q1), rfl, ⟨rfl, (by subst eu2; exact rfl)⟩, by rw [ht]; exact hP, hD⟩, hS.F ht⟩)

def f_J3_init_2 (lf : Nat → Int32) (x : Int32) (y : Int32) (yn : Nat) : (Nat → Int32) :=
  let u1 := f_J5_compress lf x y yn
  u1
abbrev q_J3_init_2 (D : va_G) (k : KK) (a : Nat) (ca : Nat) (lf : Nat → Int32) (x : Int32) (y : Int32) (yn : Nat) (A : Nat → Prop) : Array Value → State → Outcome → State → Prop := va_Qv (fun (ug : ((Nat → Int32)) × (Nat)) => ug.1 = f_J3_init_2 lf x y yn) (bx D (fun ug => [(a, eSG (fun _ => ug.2) (fun _ => 0)), (ca, aC k 8 lf), (ug.2, aB k yn ug.1)]) A) A
abbrev rm_J3_init_2 : Room := { frames := 3, cells := 1, slots := 8, locals := 120 }
theorem xo_J3_init_2 : xok yJ3_init_2 4 := by unfold xok; decide +kernel
set_option maxHeartbeats 8000000 in
theorem m_J3_init_2 (l : Launch) (D : va_G) (k : KK) (sz : Nat) (a : Nat) (ca : Nat) (lf : Nat → Int32) (x : Int32) (y : Int32) (yn : Nat) (hz : cz k) (hx_ : x = 0) (hy_ : y = nI yn) (hn1 : 1 ≤ yn) (hn8 : yn ≤ 8) (hle : ∀ j, j < yn → lf j ≤ 255) : Met l yJ3_init_2 (ws_ yJ3_init_2 cJ3_init_2 6 none) rm_J3_init_2 (pcx D k [.ref a, .ref ca, .int x, .int y, .null] sz [(a, .inr (12, [.null, .int 0, .int 0, .int 0])), (ca, aC k 8 lf)] (fun H => oldY k (va_A [(a, .inr (12, [.null, .int 0, .int 0, .int 0])), (ca, aC k 8 lf)] sz) H)) (q_J3_init_2 D k a ca lf x y yn (va_A [(a, .inr (12, [.null, .int 0, .int 0, .int 0])), (ca, aC k 8 lf)] sz)) 1 8 (va_A [(a, .inr (12, [.null, .int 0, .int 0, .int 0])), (ca, aC k 8 lf)] sz) := by
  refine Met.start (Qc := q_J3_init_2 D k a ca lf x y yn) (by decide) (Nat.le_of_ble_eq_true rfl) ?_
  intro p e s m below meth c A hx hb hr hlocks hml hown hin hts hg hP hD hA hAn hS hY hsz ls hl
  have hown : s.vm.findClass RJ3 = some m.cls := hown
  have hl : lv_has ls 6 [(0, .ref a), (1, .ref ca), (2, .int x), (3, .int y), (4, .null)] := hl
  have hO := oldY.mono hY hAn
  refine lv_aload_n hx hb dJ3_init_2_0 rfl (lv_at hl 0 rfl) ?_
  refine W.objInit hx hb hown (hts _ q598) (hts _ q113) (hts _ q114) rfl (by rw [hml]; exact hl.1) rfl dJ3_init_2_1 (Nat.le_of_ble_eq_true rfl) (Nat.le_of_ble_eq_true rfl) ?_
  refine W.eq (g2 := F0 m 4 ls []) rfl ?_
  refine lv_iload_n hx hb dJ3_init_2_4 rfl (lv_at hl 3 rfl) ?_
  refine lv_if_ne (tgt := 27) hx hb dJ3_init_2_5 (by decide) (fun _ => ?_) (fun c => absurd c (nI8_ne0 hy_ hn1 hn8))
  refine va_gets hx hb (va_Z.old hz.2.2.2.1 hg hO) hS hown (hts _ q600) (fun _ h9 => h9) dJ3_init_2_27 ?_
  refine lv_if_eq (tgt := 58) hx hb dJ3_init_2_30 (by decide) (fun c => absurd c (by decide)) (fun _ => ?_)
  refine lv_aload_n hx hb dJ3_init_2_33 rfl (lv_at hl 1 rfl) ?_
  refine lv_iload_n hx hb dJ3_init_2_34 rfl (lv_at hl 2 rfl) ?_
  refine lv_iload_n hx hb dJ3_init_2_35 rfl (lv_at hl 3 rfl) ?_
  refine xc_q (wc := [(ca, aC k 8 lf)]) (wr := [(a, .inr (12, [.null, .int 0, .int 0, .int 0]))]) hP hD hS hA [1] [0] rfl rfl rfl (by decide) (xrS ⟨hx, hb, hml, hown, hts⟩ hg (m_J5_compress l D k _ ca lf x y yn hx_ hy_ hn8 hle) hP hD [1] rfl rfl trivial q602 q603 q97 q604 xo_J5_compress ⟨rfl, rfl⟩ ⟨Nat.le_of_ble_eq_true rfl, Nat.le_of_ble_eq_true rfl⟩ hl.1 (Nat.le_of_ble_eq_true rfl) dJ3_init_2_36 ⟨Nat.le_of_ble_eq_true rfl, Nat.le_of_ble_eq_true rfl⟩ rfl) (fun r_ ugu1 H locs hw hP hD hS hk => ?_)
  obtain ⟨u1, g2⟩ := ugu1
  dsimp only at hw hP hD
  obtain ⟨rfl, eu1⟩ := hw
  replace hP : va_P D vwCl [(a, .inr (12, [.null, .int 0, .int 0, .int 0])), (ca, aC k 8 lf), (g2, aB k yn u1)] H := hP.sub [0, 1, 2] rfl
  replace hD : va_D A [(a, .inr (12, [.null, .int 0, .int 0, .int 0])), (ca, aC k 8 lf), (g2, aB k yn u1)] := hD.sub [0, 1, 2] (by decide) rfl
  refine W.cs (cells' := 1) (slots' := 8) rfl rfl ?_
  refine W.eq (g2 := F0 m 39 ls [.ref g2]) rfl ?_
  refine lv_astore (lv' := [(5, .ref g2), (0, .ref a), (1, .ref ca), (2, .int x), (3, .int y), (4, .null)]) hx hb dJ3_init_2_39 hl (Nat.le_of_ble_eq_true rfl) rfl (fun ls hl => ?_)
  refine lv_aload_n hx hb dJ3_init_2_41 rfl (lv_at hl 1 rfl) ?_
  refine lv_aload hx hb dJ3_init_2_42 (lv_at hl 0 rfl) ?_
  refine lv_iload_n hx hb dJ3_init_2_44 rfl (lv_at hl 4 rfl) ?_
  refine xc_i (wc := [(g2, aB k yn u1)]) (wr := [(a, .inr (12, [.null, .int 0, .int 0, .int 0])), (ca, aC k 8 lf)]) hP hD hS hA [2] [0, 1] rfl rfl rfl (by decide) (xrS ⟨hx, hb, hml, hown, hts⟩ hg (m_J5_coderFromArrayLen l D k _ g2 u1 y yn hy_) hP hD [2] rfl rfl trivial q640 q641 q97 q642 xo_J5_coderFromArrayLen ⟨rfl, rfl⟩ ⟨Nat.le_of_ble_eq_true rfl, Nat.le_of_ble_eq_true rfl⟩ hl.1 (Nat.le_of_ble_eq_true rfl) dJ3_init_2_45 ⟨Nat.le_of_ble_eq_true rfl, Nat.le_of_ble_eq_true rfl⟩ rfl) (fun u3 r_ H locs hw hP hD hS hk => ?_)
  obtain ⟨rfl, eu3⟩ := hw
  replace hP : va_P D vwCl [(a, .inr (12, [.null, .int 0, .int 0, .int 0])), (ca, aC k 8 lf), (g2, aB k yn u1)] H := hP.sub [0, 1, 2] rfl
  replace hD : va_D A [(a, .inr (12, [.null, .int 0, .int 0, .int 0])), (ca, aC k 8 lf), (g2, aB k yn u1)] := hD.sub [0, 1, 2] (by decide) rfl
  obtain rfl : u3 = 0 := eu3.trans (cod8 hy_)
  refine va_putF (D := D) (ci := 12) (v := .int 0) (C := RJ3) (T := TJ3) (N := 4) hx hb hts in_J3 tyJ3 tyJ3_ok nmJ3 hown hg.1 hP hD hS 0 rfl rfl 1 (Nat.le_of_ble_eq_true rfl) (hts _ q645) (fun _ h9 => h9) rfl hin rfl ftJ3_1 rfl rfl (Nat.le_of_ble_eq_true rfl) dJ3_init_2_48 (fun H locs hP hD hS => ?_)
  replace hP : va_P D vwCl [(a, .inr (12, [.null, .int 0, .int 0, .int 0])), (ca, aC k 8 lf), (g2, aB k yn u1)] H := hP
  replace hD : va_D A [(a, .inr (12, [.null, .int 0, .int 0, .int 0])), (ca, aC k 8 lf), (g2, aB k yn u1)] := hD
  refine lv_aload_n hx hb dJ3_init_2_51 rfl (lv_at hl 1 rfl) ?_
  refine lv_aload hx hb dJ3_init_2_52 (lv_at hl 0 rfl) ?_
  refine va_putF (D := D) (ci := 12) (v := .ref g2) (C := RJ3) (T := TJ3) (N := 4) hx hb hts in_J3 tyJ3 tyJ3_ok nmJ3 hown hg.1 hP hD hS 0 rfl rfl 0 (Nat.le_of_ble_eq_true rfl) (hts _ q644) (fun _ h9 => h9) rfl hin rfl ftJ3_0 rfl rfl (Nat.le_of_ble_eq_true rfl) dJ3_init_2_54 (fun H locs hP hD hS => ?_)
  replace hP : va_P D vwCl [(a, .inr (12, [.ref g2, .int 0, .int 0, .int 0])), (ca, aC k 8 lf), (g2, aB k yn u1)] H := hP
  replace hD : va_D A [(a, .inr (12, [.ref g2, .int 0, .int 0, .int 0])), (ca, aC k 8 lf), (g2, aB k yn u1)] := hD
  exact xret_v hx hb hr hlocks (by omega) (by omega) hS.2.2 dJ3_init_2_57 (fun t ht => ⟨⟨(u1, g2), rfl, (by subst eu1; exact rfl), by rw [ht]; exact hP, hD⟩, hS.F ht⟩)

def f_J3_init (lf : Nat → Int32) (x : Int32) (y : Int32) (yn : Nat) : (Nat → Int32) :=
  let u2 := f_J3_init_2 lf x y yn
  u2
abbrev q_J3_init (D : va_G) (k : KK) (a : Nat) (ca : Nat) (lf : Nat → Int32) (x : Int32) (y : Int32) (yn : Nat) (A : Nat → Prop) : Array Value → State → Outcome → State → Prop := va_Qv (fun (ug : ((Nat → Int32)) × (Nat)) => ug.1 = f_J3_init lf x y yn) (bx D (fun ug => [(a, eSG (fun _ => ug.2) (fun _ => 0)), (ca, aC k 8 lf), (ug.2, aB k yn ug.1)]) A) A
abbrev rm_J3_init : Room := { frames := 4, cells := 1, slots := 8, locals := 160 }
theorem xo_J3_init : xok yJ3_init 3 := by unfold xok; decide +kernel
set_option maxHeartbeats 8000000 in
theorem m_J3_init (l : Launch) (D : va_G) (k : KK) (sz : Nat) (a : Nat) (ca : Nat) (lf : Nat → Int32) (x : Int32) (y : Int32) (yn : Nat) (hz : cz k) (hx_ : x = 0) (hy_ : y = nI yn) (hn1 : 1 ≤ yn) (hn8 : yn ≤ 8) (hle : ∀ j, j < yn → lf j ≤ 255) : Met l yJ3_init (ws_ yJ3_init cJ3_init 4 none) rm_J3_init (pcx D k [.ref a, .ref ca, .int x, .int y] sz [(a, .inr (12, [.null, .int 0, .int 0, .int 0])), (ca, aC k 8 lf)] (fun H => oldY k (va_A [(a, .inr (12, [.null, .int 0, .int 0, .int 0])), (ca, aC k 8 lf)] sz) H)) (q_J3_init D k a ca lf x y yn (va_A [(a, .inr (12, [.null, .int 0, .int 0, .int 0])), (ca, aC k 8 lf)] sz)) 1 8 (va_A [(a, .inr (12, [.null, .int 0, .int 0, .int 0])), (ca, aC k 8 lf)] sz) := by
  refine Met.start (Qc := q_J3_init D k a ca lf x y yn) (by decide) (Nat.le_of_ble_eq_true rfl) ?_
  intro p e s m below meth c A hx hb hr hlocks hml hown hin hts hg hP hD hA hAn hS hY hsz ls hl
  have hown : s.vm.findClass RJ3 = some m.cls := hown
  have hl : lv_has ls 4 [(0, .ref a), (1, .ref ca), (2, .int x), (3, .int y)] := hl
  have hO := oldY.mono hY hAn
  refine lv_aload_n hx hb dJ3_init_0 rfl (lv_at hl 0 rfl) ?_
  refine lv_aload_n hx hb dJ3_init_1 rfl (lv_at hl 1 rfl) ?_
  refine lv_iload_n hx hb dJ3_init_2 rfl (lv_at hl 2 rfl) ?_
  refine lv_iload_n hx hb dJ3_init_3 rfl (lv_at hl 3 rfl) ?_
  refine lv_aload_n hx hb dJ3_init_4 rfl (lv_at hl 1 rfl) ?_
  refine lv_iload_n hx hb dJ3_init_5 rfl (lv_at hl 2 rfl) ?_
  refine lv_iload_n hx hb dJ3_init_6 rfl (lv_at hl 3 rfl) ?_
  refine xc_q (wc := [(ca, aC k 8 lf)]) (wr := [(a, .inr (12, [.null, .int 0, .int 0, .int 0]))]) hP hD hS hA [1] [0] rfl rfl rfl (by decide) (xrS ⟨hx, hb, hml, hown, hts⟩ hg (m_J3_rangeCheck l D k _ ca lf x y yn hz hx_ hy_ hn8) hP hD [1] rfl rfl (oldY.call hO hS (va_free (wc := [(ca, aC k 8 lf)]) hD hS hA [1] rfl)) q584 q585 q95 q586 xo_J3_rangeCheck ⟨rfl, rfl⟩ ⟨Nat.le_of_ble_eq_true rfl, Nat.le_of_ble_eq_true rfl⟩ hl.1 (Nat.le_of_ble_eq_true rfl) dJ3_init_7 ⟨Nat.le_of_ble_eq_true rfl, Nat.le_of_ble_eq_true rfl⟩ rfl) (fun u1 r_ H locs hw hP hD hS hk => ?_)
  obtain ⟨rfl, eu1⟩ := hw
  replace hP : va_P D vwCl [(a, .inr (12, [.null, .int 0, .int 0, .int 0])), (ca, aC k 8 lf)] H := hP.sub [0, 1] rfl
  replace hD : va_D A [(a, .inr (12, [.null, .int 0, .int 0, .int 0])), (ca, aC k 8 lf)] := hD.sub [0, 1] (by decide) rfl
  obtain rfl : u1 = none := eu1
  refine W.eq (g2 := F0 m 10 ls [.null, .int y, .int x, .ref ca, .ref a]) rfl ?_
  refine xc_v (wc := [(a, .inr (12, [.null, .int 0, .int 0, .int 0])), (ca, aC k 8 lf)]) (wr := []) hP hD hS hA [0, 1] [] rfl rfl rfl (by decide) (xrI ⟨hx, hb, hml, hown, hts⟩ hg (m_J3_init_2 l D k _ a ca lf x y yn hz hx_ hy_ hn1 hn8 hle) hP hD [0, 1] rfl rfl (oldY.call hO hS (va_free (wc := [(a, .inr (12, [.null, .int 0, .int 0, .int 0])), (ca, aC k 8 lf)]) hD hS hA [0, 1] rfl)) q595 q596 q95 q597 rfl xo_J3_init_2 ⟨rfl, rfl⟩ ⟨Nat.le_of_ble_eq_true rfl, Nat.le_of_ble_eq_true rfl⟩ hl.1 (Nat.le_of_ble_eq_true rfl) dJ3_init_10 ⟨Nat.le_of_ble_eq_true rfl, Nat.le_of_ble_eq_true rfl⟩ rfl) (fun ugu2 H locs hw hP hD hS hk => ?_)
  obtain ⟨u2, g3⟩ := ugu2
  dsimp only at hw hP hD
  have eu2 := hw
  replace hP : va_P D vwCl [(a, eSG (fun _ => g3) (fun _ => 0)), (ca, aC k 8 lf), (g3, aB k yn u2)] H := hP.sub [0, 1, 2] rfl
  replace hD : va_D A [(a, eSG (fun _ => g3) (fun _ => 0)), (ca, aC k 8 lf), (g3, aB k yn u2)] := hD.sub [0, 1, 2] (by decide) rfl
  refine W.cs (cells' := 1) (slots' := 8) rfl rfl ?_
  exact xret_v hx hb hr hlocks (by omega) (by omega) hS.2.2 dJ3_init_13 (fun t ht => ⟨⟨(u2, g3), rfl, (by subst eu2; exact rfl), by rw [ht]; exact hP, hD⟩, hS.F ht⟩)
