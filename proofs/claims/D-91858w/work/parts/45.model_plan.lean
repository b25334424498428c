set_option maxRecDepth 100000
def f_X8_swapped_l45 (MI : Nat → Int32) (mpr : Nat → Int32) (mbr : Nat → Int32) (mnx : Nat → Int32) (mhd : Nat → Int32) (mtn : Nat → Int32) (pR : Nat → Int32) (pW : Nat → Int32) (pO : Nat → Int32) (qH : Nat → Int32) (qW : Nat → Int32) (qV : Nat → Int32) (qO : Nat → Int32) (po : Nat → Nat) (sn : Nat) (qn : Nat → Nat) (nP : Nat) (nS : Nat) (i3 : Nat) : Nat → Nat → ((Nat → Int32) × (Nat → Int32)) → (Int32 × Int32 × Int32 × Int32 × (Nat → Int32) × (Nat → Int32)) ⊕ ((Nat → Int32) × (Nat → Int32))
  | 0, i48, X48 => .inr X48
  | n48 + 1, i48, X48 => let u58 := f_X8_allFits MI mpr mbr mnx mhd mtn X48.1 pR pW pO qH qW qV qO X48.2 po sn qn nP nS (nI i3) (nI ((i3 + 1) + i48))
    if u58.1 ≤ 0 then
      f_X8_swapped_l45 MI mpr mbr mnx mhd mtn pR pW pO qH qW qV qO po sn qn nP nS i3 n48 (i48 + 1) (u58.2.1, u58.2.2)
    else
      let u60 := f_X8_done ((100 * (nI i3)) + (nI ((i3 + 1) + i48)))
      .inl (u60.1, 0, u60.2.1, u60.2.2, u58.2.1, u58.2.2)
def f_X8_swapped_l35 (MI : Nat → Int32) (mpr : Nat → Int32) (mbr : Nat → Int32) (mnx : Nat → Int32) (mhd : Nat → Int32) (mtn : Nat → Int32) (pR : Nat → Int32) (pW : Nat → Int32) (pO : Nat → Int32) (qH : Nat → Int32) (qW : Nat → Int32) (qV : Nat → Int32) (qO : Nat → Int32) (po : Nat → Nat) (sn : Nat) (qn : Nat → Nat) (nP : Nat) (nS : Nat) : Nat → Nat → ((Nat → Int32) × (Nat → Int32)) → (Int32 × Int32 × Int32 × Int32 × (Nat → Int32) × (Nat → Int32)) ⊕ ((Nat → Int32) × (Nat → Int32))
  | 0, i3, X3 => .inr X3
  | n3 + 1, i3, X3 => let x47 := ((nI i3) + 1)
    Sum.elim (fun r_ => .inl r_) (fun X48 =>
      f_X8_swapped_l35 MI mpr mbr mnx mhd mtn pR pW pO qH qW qV qO po sn qn nP nS n3 (i3 + 1) (X48.1, X48.2)) (f_X8_swapped_l45 MI mpr mbr mnx mhd mtn pR pW pO qH qW qV qO po sn qn nP nS i3 (11 - i3) 0 (X3.1, X3.2))
def f_X8_swapped (MI : Nat → Int32) (mpr : Nat → Int32) (mbr : Nat → Int32) (mnx : Nat → Int32) (mhd : Nat → Int32) (mtn : Nat → Int32) (tw : Nat → Int32) (pR : Nat → Int32) (pW : Nat → Int32) (pO : Nat → Int32) (qH : Nat → Int32) (qW : Nat → Int32) (qV : Nat → Int32) (qO : Nat → Int32) (fi : Nat → Int32) (po : Nat → Nat) (sn : Nat) (qn : Nat → Nat) (nP : Nat) (nS : Nat) : Int32 × Int32 × Int32 × Int32 × (Nat → Int32) × (Nat → Int32) :=
  let u1 := f_X8_allFits MI mpr mbr mnx mhd mtn tw pR pW pO qH qW qV qO fi po sn qn nP nS (-1) (-1)
  if u1.1 ≤ 0 then
    Sum.elim (fun r_ => r_) (fun X3 =>
      let u46 := f_X8_done (-2)
      (u46.1, 0, u46.2.1, u46.2.2, X3.1, X3.2)) (f_X8_swapped_l35 MI mpr mbr mnx mhd mtn pR pW pO qH qW qV qO po sn qn nP nS 12 0 (u1.2.1, u1.2.2))
  else
    let u61 := f_X8_refused 5
    (u61.1, 0, u61.2.1, u61.2.2, u1.2.1, u1.2.2)
abbrev q_X8_swapped (D : va_G) (k : KK) (o : Nat) (r : Nat → Nat) (fr : Value) (I : Nat → Int32) (L : Nat → Int64) (ma : Nat) (mr : Nat → Nat) (MI : Nat → Int32) (mpr : Nat → Int32) (mbr : Nat → Int32) (mnx : Nat → Int32) (mhd : Nat → Int32) (mtn : Nat → Int32) (tw : Nat → Int32) (pR : Nat → Int32) (pW : Nat → Int32) (pO : Nat → Int32) (qH : Nat → Int32) (qW : Nat → Int32) (qV : Nat → Int32) (qO : Nat → Int32) (fi : Nat → Int32) (po : Nat → Nat) (sn : Nat) (qn : Nat → Nat) (nP : Nat) (nS : Nat) (A : Nat → Prop) : Array Value → State → Outcome → State → Prop := va_Qi (fun (r_ : Int32) (u : Int32 × Int32 × Int32 × Int32 × (Nat → Int32) × (Nat → Int32)) => r_ = u.1 ∧ u = f_X8_swapped MI mpr mbr mnx mhd mtn tw pR pW pO qH qW qV qO fi po sn qn nP nS) (bx D (fun u => [(o, eMM r (.ref ma) fr (upd (upd (upd I 0 u.2.1) 1 u.2.2.1) 2 u.2.2.2.1) L), (ma, eMI mr MI), ((mr 11), aI k 6 mpr), ((mr 12), aI k 5 mbr), ((mr 13), aI k 5 mnx), ((mr 14), aI k 4 mhd), ((mr 15), aI k 20 mtn), ((r 17), aI k 37 u.2.2.2.2.1), ((r 20), aI k 12 pR), ((r 21), aI k 12 pW), ((r 22), aI k 12 pO), ((r 24), aI k 24 qH), ((r 25), aI k 24 qW), ((r 26), aI k 24 qV), ((r 27), aI k 24 qO), ((r 28), aI k 100 u.2.2.2.2.2)]) A) A
abbrev rm_X8_swapped : Room := { frames := 7, cells := 0, slots := 0, locals := 280 }
theorem xo_X8_swapped : xok yX8_swapped 0 := by unfold xok; decide +kernel
set_option maxHeartbeats 8000000 in
theorem m_X8_swapped (l : Launch) (D : va_G) (k : KK) (sz : Nat) (o : Nat) (r : Nat → Nat) (fr : Value) (I : Nat → Int32) (L : Nat → Int64) (ma : Nat) (mr : Nat → Nat) (MI : Nat → Int32) (mpr : Nat → Int32) (mbr : Nat → Int32) (mnx : Nat → Int32) (mhd : Nat → Int32) (mtn : Nat → Int32) (tw : Nat → Int32) (pR : Nat → Int32) (pW : Nat → Int32) (pO : Nat → Int32) (qH : Nat → Int32) (qW : Nat → Int32) (qV : Nat → Int32) (qO : Nat → Int32) (fi : Nat → Int32) (po : Nat → Nat) (sn : Nat) (qn : Nat → Nat) (nP : Nat) (nS : Nat) (hmS : MI 8 = nI nS) (hS2 : 2 ≤ nS) (hS5 : nS ≤ 5) (hpr : MI 7 = nI nP) (hP1 : 1 ≤ nP) (hP6 : nP ≤ 6) (hroom : ¬ MI 0 = 0) (hlife : ¬ MI 4 = 0) (hhd : ∀ j, j < 4 → ¬ 9 + mhd j = 0) (hpo : ∀ h, h < 12 → pO h = nI (po h) ∧ po h < 4) (hsn : I 23 = nI sn) (hs24 : sn ≤ 24) (hqw : ∀ j, j < sn → qW j = nI (qn j) ∧ qn j ≤ 6) : Met l yX8_swapped (ws_ yX8_swapped cX8_swapped 3 (some .int)) rm_X8_swapped (pcx D k [.ref o] sz [(o, eMM r (.ref ma) fr I L), (ma, eMI mr MI), ((mr 11), aI k 6 mpr), ((mr 12), aI k 5 mbr), ((mr 13), aI k 5 mnx), ((mr 14), aI k 4 mhd), ((mr 15), aI k 20 mtn), ((r 17), aI k 37 tw), ((r 20), aI k 12 pR), ((r 21), aI k 12 pW), ((r 22), aI k 12 pO), ((r 24), aI k 24 qH), ((r 25), aI k 24 qW), ((r 26), aI k 24 qV), ((r 27), aI k 24 qO), ((r 28), aI k 100 fi)] (fun _ => True)) (q_X8_swapped D k o r fr I L ma mr MI mpr mbr mnx mhd mtn tw pR pW pO qH qW qV qO fi po sn qn nP nS (va_A [(o, eMM r (.ref ma) fr I L), (ma, eMI mr MI), ((mr 11), aI k 6 mpr), ((mr 12), aI k 5 mbr), ((mr 13), aI k 5 mnx), ((mr 14), aI k 4 mhd), ((mr 15), aI k 20 mtn), ((r 17), aI k 37 tw), ((r 20), aI k 12 pR), ((r 21), aI k 12 pW), ((r 22), aI k 12 pO), ((r 24), aI k 24 qH), ((r 25), aI k 24 qW), ((r 26), aI k 24 qV), ((r 27), aI k 24 qO), ((r 28), aI k 100 fi)] sz)) 0 0 (va_A [(o, eMM r (.ref ma) fr I L), (ma, eMI mr MI), ((mr 11), aI k 6 mpr), ((mr 12), aI k 5 mbr), ((mr 13), aI k 5 mnx), ((mr 14), aI k 4 mhd), ((mr 15), aI k 20 mtn), ((r 17), aI k 37 tw), ((r 20), aI k 12 pR), ((r 21), aI k 12 pW), ((r 22), aI k 12 pO), ((r 24), aI k 24 qH), ((r 25), aI k 24 qW), ((r 26), aI k 24 qV), ((r 27), aI k 24 qO), ((r 28), aI k 100 fi)] sz) := by
  refine Met.start (Qc := q_X8_swapped D k o r fr I L ma mr MI mpr mbr mnx mhd mtn tw pR pW pO qH qW qV qO fi po sn qn nP nS) (by decide) (Nat.le_of_ble_eq_true rfl) ?_
  intro p e s m below meth c A hx hb hr hlocks hml hown hin hts hg hP hD hA hAn hS hY hsz ls hl
  have hown : s.vm.findClass RX8 = some m.cls := hown
  have hl : lv_has ls 3 [(0, .ref o)] := hl
  refine lv_aload_n hx hb dX8_swapped_0 rfl (lv_at hl 0 rfl) ?_
  refine lv_iconst (v := 0) hx hb dX8_swapped_1 ci_0 ?_
  refine va_put (D := D) (ci := 10) (v := .int 0) (C := RX8) (T := TX8) (N := 37) hx hb hts in_X8 tyX8 tyX8_ok nmX8 hown hg.1 hP hD hS 0 rfl rfl 0 (Nat.le_of_ble_eq_true rfl) (hts _ q1141) (fun _ h9 => h9) rfl ftX8_0 rfl rfl (Nat.le_of_ble_eq_true rfl) dX8_swapped_2 (fun H locs hP hD hS => ?_)
  replace hP : va_P D vwCl [(o, eMM r (.ref ma) fr (upd I 0 0) L), (ma, eMI mr MI), ((mr 11), aI k 6 mpr), ((mr 12), aI k 5 mbr), ((mr 13), aI k 5 mnx), ((mr 14), aI k 4 mhd), ((mr 15), aI k 20 mtn), ((r 17), aI k 37 tw), ((r 20), aI k 12 pR), ((r 21), aI k 12 pW), ((r 22), aI k 12 pO), ((r 24), aI k 24 qH), ((r 25), aI k 24 qW), ((r 26), aI k 24 qV), ((r 27), aI k 24 qO), ((r 28), aI k 100 fi)] H := hP
  replace hD : va_D A [(o, eMM r (.ref ma) fr (upd I 0 0) L), (ma, eMI mr MI), ((mr 11), aI k 6 mpr), ((mr 12), aI k 5 mbr), ((mr 13), aI k 5 mnx), ((mr 14), aI k 4 mhd), ((mr 15), aI k 20 mtn), ((r 17), aI k 37 tw), ((r 20), aI k 12 pR), ((r 21), aI k 12 pW), ((r 22), aI k 12 pO), ((r 24), aI k 24 qH), ((r 25), aI k 24 qW), ((r 26), aI k 24 qV), ((r 27), aI k 24 qO), ((r 28), aI k 100 fi)] := hD
  refine lv_aload_n hx hb dX8_swapped_5 rfl (lv_at hl 0 rfl) ?_
  refine va_get (D := D) (ci := 10) (v := .ref ma) (C := RX8) (T := TX8) (N := 37) hx hb hts in_X8 hown hg.1 hP 0 rfl rfl 3 (Nat.le_of_ble_eq_true rfl) (hts _ q1144) (fun _ h9 => h9) rfl dX8_swapped_6 ?_
  refine lv_ifnonnull (tgt := 18) hx hb dX8_swapped_9 (by decide) ?_
  refine lv_aload_n hx hb dX8_swapped_18 rfl (lv_at hl 0 rfl) ?_
  refine lv_iconst (v := (-1)) hx hb dX8_swapped_19 ci_m1 ?_
  refine lv_iconst (v := (-1)) hx hb dX8_swapped_20 ci_m1 ?_
  refine xc_i (wc := [(o, eMM r (.ref ma) fr (upd I 0 0) L), (ma, eMI mr MI), ((mr 11), aI k 6 mpr), ((mr 12), aI k 5 mbr), ((mr 13), aI k 5 mnx), ((mr 14), aI k 4 mhd), ((mr 15), aI k 20 mtn), ((r 17), aI k 37 tw), ((r 20), aI k 12 pR), ((r 21), aI k 12 pW), ((r 22), aI k 12 pO), ((r 24), aI k 24 qH), ((r 25), aI k 24 qW), ((r 26), aI k 24 qV), ((r 27), aI k 24 qO), ((r 28), aI k 100 fi)]) (wr := []) hP hD hS hA [0, 1, 2, 3, 4, 5, 6, 7, 8, 9, 10, 11, 12, 13, 14, 15] [] rfl rfl rfl (by decide) (xrV ⟨hx, hb, hml, hown, hts⟩ hg (m_X8_allFits l D k _ o r fr (upd I 0 0) L ma mr MI mpr mbr mnx mhd mtn tw pR pW pO qH qW qV qO fi po sn qn nP nS (-1) (-1) hmS hS2 hS5 hpr hP1 hP6 hroom hlife hhd hpo hsn hs24 hqw) hP hD [0, 1, 2, 3, 4, 5, 6, 7, 8, 9, 10, 11, 12, 13, 14, 15] rfl rfl trivial (ci := 10) (q0 := 0) rfl rfl rfl q1575 q1577 qs72 q93 q1578 xo_X8_allFits ⟨rfl, rfl⟩ ⟨Nat.le_of_ble_eq_true rfl, Nat.le_of_ble_eq_true rfl⟩ hl.1 (Nat.le_of_ble_eq_true rfl) dX8_swapped_21 ⟨Nat.le_of_ble_eq_true rfl, Nat.le_of_ble_eq_true rfl⟩ rfl) (fun r_ u1 H locs hw hP hD hS hk => ?_)
  obtain ⟨rfl, eu1⟩ := hw
  replace hP : va_P D vwCl [(o, eMM r (.ref ma) fr (upd I 0 0) L), (ma, eMI mr MI), ((mr 11), aI k 6 mpr), ((mr 12), aI k 5 mbr), ((mr 13), aI k 5 mnx), ((mr 14), aI k 4 mhd), ((mr 15), aI k 20 mtn), ((r 17), aI k 37 u1.2.1), ((r 20), aI k 12 pR), ((r 21), aI k 12 pW), ((r 22), aI k 12 pO), ((r 24), aI k 24 qH), ((r 25), aI k 24 qW), ((r 26), aI k 24 qV), ((r 27), aI k 24 qO), ((r 28), aI k 100 u1.2.2)] H := hP.sub [0, 1, 2, 3, 4, 5, 6, 7, 8, 9, 10, 11, 12, 13, 14, 15] rfl
  replace hD : va_D A [(o, eMM r (.ref ma) fr (upd I 0 0) L), (ma, eMI mr MI), ((mr 11), aI k 6 mpr), ((mr 12), aI k 5 mbr), ((mr 13), aI k 5 mnx), ((mr 14), aI k 4 mhd), ((mr 15), aI k 20 mtn), ((r 17), aI k 37 u1.2.1), ((r 20), aI k 12 pR), ((r 21), aI k 12 pW), ((r 22), aI k 12 pO), ((r 24), aI k 24 qH), ((r 25), aI k 24 qW), ((r 26), aI k 24 qV), ((r 27), aI k 24 qO), ((r 28), aI k 100 u1.2.2)] := hD.sub [0, 1, 2, 3, 4, 5, 6, 7, 8, 9, 10, 11, 12, 13, 14, 15] (by decide) rfl
  refine lv_if_le (tgt := 33) hx hb dX8_swapped_24 (by decide) (fun c2 => ?_) (fun c2 => ?_)
  · refine lv_iconst (v := 0) hx hb dX8_swapped_33 ci_0 ?_
    refine lv_istore_n (lv' := [(1, .int 0), (0, .ref o)]) hx hb dX8_swapped_34 rfl hl (Nat.le_of_ble_eq_true rfl) rfl (fun ls hl => ?_)
    have loop3 : ∀ (n3 i3 : Nat) (X3 : (Nat → Int32) × (Nat → Int32)) (H : Heap) (locs : List Loc) (ls : Array Slot), i3 + n3 = 12 → f_X8_swapped_l35 MI mpr mbr mnx mhd mtn pR pW pO qH qW qV qO po sn qn nP nS n3 i3 X3 = f_X8_swapped_l35 MI mpr mbr mnx mhd mtn pR pW pO qH qW qV qO po sn qn nP nS 12 0 (u1.2.1, u1.2.2) → va_P D vwCl [(o, eMM r (.ref ma) fr (upd I 0 0) L), (ma, eMI mr MI), ((mr 11), aI k 6 mpr), ((mr 12), aI k 5 mbr), ((mr 13), aI k 5 mnx), ((mr 14), aI k 4 mhd), ((mr 15), aI k 20 mtn), ((r 17), aI k 37 X3.1), ((r 20), aI k 12 pR), ((r 21), aI k 12 pW), ((r 22), aI k 12 pO), ((r 24), aI k 24 qH), ((r 25), aI k 24 qW), ((r 26), aI k 24 qV), ((r 27), aI k 24 qO), ((r 28), aI k 100 X3.2)] H → va_D A [(o, eMM r (.ref ma) fr (upd I 0 0) L), (ma, eMI mr MI), ((mr 11), aI k 6 mpr), ((mr 12), aI k 5 mbr), ((mr 13), aI k 5 mnx), ((mr 14), aI k 4 mhd), ((mr 15), aI k 20 mtn), ((r 17), aI k 37 X3.1), ((r 20), aI k 12 pR), ((r 21), aI k 12 pW), ((r 22), aI k 12 pO), ((r 24), aI k 24 qH), ((r 25), aI k 24 qW), ((r 26), aI k 24 qV), ((r 27), aI k 24 qO), ((r 28), aI k 100 X3.2)] → va_S A s.heap H locs → lv_has ls 3 [(1, .int (nI i3)), (0, .ref o)] → W p l e rm_X8_swapped s m ([.ref o] : List Value).toArray below meth c H locs 0 0 (MQ below (q_X8_swapped D k o r fr I L ma mr MI mpr mbr mnx mhd mtn tw pR pW pO qH qW qV qO fi po sn qn nP nS A) ([.ref o] : List Value).toArray s 0 0 A) (F0 m 35 ls []) := by
      intro n3
      induction n3 with
      | zero =>
        intro i3 X3 H locs ls hn3 eX3 hP hD hS hl
        have hi3 : i3 = 12 := by omega
        replace eX3 : f_X8_swapped_l35 MI mpr mbr mnx mhd mtn pR pW pO qH qW qV qO po sn qn nP nS 12 0 (u1.2.1, u1.2.2) = Sum.inr X3 := eX3.symm
        refine lv_iload_n hx hb dX8_swapped_35 rfl (lv_at hl 0 rfl) ?_
        refine lv_bipush (v := 12) hx hb dX8_swapped_36 cb_12 ?_
        refine lv_icmp_ge (tgt := 83) hx hb dX8_swapped_38 (by decide) (fun _ => ?_) (fun c => absurd (xle_t xl_12 rfl (by omega) (by omega)) c)
        refine lv_aload_n hx hb dX8_swapped_83 rfl (lv_at hl 1 rfl) ?_
        refine lv_bipush (v := (-2)) hx hb dX8_swapped_84 cb_m2 ?_
        refine xc_i (wc := [(o, eMM r (.ref ma) fr (upd I 0 0) L)]) (wr := [(ma, eMI mr MI), ((mr 11), aI k 6 mpr), ((mr 12), aI k 5 mbr), ((mr 13), aI k 5 mnx), ((mr 14), aI k 4 mhd), ((mr 15), aI k 20 mtn), ((r 17), aI k 37 X3.1), ((r 20), aI k 12 pR), ((r 21), aI k 12 pW), ((r 22), aI k 12 pO), ((r 24), aI k 24 qH), ((r 25), aI k 24 qW), ((r 26), aI k 24 qV), ((r 27), aI k 24 qO), ((r 28), aI k 100 X3.2)]) hP hD hS hA [0] [1, 2, 3, 4, 5, 6, 7, 8, 9, 10, 11, 12, 13, 14, 15] rfl rfl rfl (by decide) (xrV ⟨hx, hb, hml, hown, hts⟩ hg (m_X8_done l D k _ o r (.ref ma) fr (upd I 0 0) L (-2)) hP hD [0] rfl rfl trivial (ci := 10) (q0 := 0) rfl rfl rfl q1482 q1484 qs60 q93 q1485 xo_X8_done ⟨rfl, rfl⟩ ⟨Nat.le_of_ble_eq_true rfl, Nat.le_of_ble_eq_true rfl⟩ hl.1 (Nat.le_of_ble_eq_true rfl) dX8_swapped_86 ⟨Nat.le_of_ble_eq_true rfl, Nat.le_of_ble_eq_true rfl⟩ rfl) (fun r_ u46 H locs hw hP hD hS hk => ?_)
        obtain ⟨rfl, eu46⟩ := hw
        replace hP : va_P D vwCl [(o, eMM r (.ref ma) fr (upd (upd (upd I 0 0) 1 u46.2.1) 2 u46.2.2) L), (ma, eMI mr MI), ((mr 11), aI k 6 mpr), ((mr 12), aI k 5 mbr), ((mr 13), aI k 5 mnx), ((mr 14), aI k 4 mhd), ((mr 15), aI k 20 mtn), ((r 17), aI k 37 X3.1), ((r 20), aI k 12 pR), ((r 21), aI k 12 pW), ((r 22), aI k 12 pO), ((r 24), aI k 24 qH), ((r 25), aI k 24 qW), ((r 26), aI k 24 qV), ((r 27), aI k 24 qO), ((r 28), aI k 100 X3.2)] H := hP.sub [15, 0, 1, 2, 3, 4, 5, 6, 7, 8, 9, 10, 11, 12, 13, 14] rfl
        replace hD : va_D A [(o, eMM r (.ref ma) fr (upd (upd (upd I 0 0) 1 u46.2.1) 2 u46.2.2) L), (ma, eMI mr MI), ((mr 11), aI k 6 mpr), ((mr 12), aI k 5 mbr), ((mr 13), aI k 5 mnx), ((mr 14), aI k 4 mhd), ((mr 15), aI k 20 mtn), ((r 17), aI k 37 X3.1), ((r 20), aI k 12 pR), ((r 21), aI k 12 pW), ((r 22), aI k 12 pO), ((r 24), aI k 24 qH), ((r 25), aI k 24 qW), ((r 26), aI k 24 qV), ((r 27), aI k 24 qO), ((r 28), aI k 100 X3.2)] := hD.sub [15, 0, 1, 2, 3, 4, 5, 6, 7, 8, 9, 10, 11, 12, 13, 14] (by decide) rfl
        exact xret_i hx hb hr hlocks (Nat.le_of_ble_eq_true rfl) (Nat.le_of_ble_eq_true rfl) hS.2.2 dX8_swapped_89 (fun t ht => ⟨⟨u46.1, (u46.1, 0, u46.2.1, u46.2.2, X3.1, X3.2), rfl, ⟨rfl, (by subst eu46; subst eu1; exact Eq.symm (Eq.trans (if_pos c2) (Eq.trans (xm_r eX3) (rfl))))⟩, by rw [ht]; exact hP, hD⟩, hS.F ht⟩)
      | succ n3 ih3 =>
        intro i3 X3 H locs ls hn3 eX3 hP hD hS hl
        have hi3 : i3 < 12 := by omega
        refine lv_iload_n hx hb dX8_swapped_35 rfl (lv_at hl 0 rfl) ?_
        refine lv_bipush (v := 12) hx hb dX8_swapped_36 cb_12 ?_
        refine lv_icmp_ge (tgt := 83) hx hb dX8_swapped_38 (by decide) (fun c => absurd c (xle_f xl_12 rfl (by omega) (by omega))) (fun _ => ?_)
        refine lv_iload_n hx hb dX8_swapped_41 rfl (lv_at hl 0 rfl) ?_
        refine lv_iconst (v := 1) hx hb dX8_swapped_42 ci_1 ?_
        refine lv_iadd hx hb dX8_swapped_43 ?_
        refine lv_topi (fun x47 ex47 => ?_)
        refine lv_istore_n (lv' := [(2, .int x47), (1, .int (nI i3)), (0, .ref o)]) hx hb dX8_swapped_44 rfl hl (Nat.le_of_ble_eq_true rfl) rfl (fun ls hl => ?_)
        have loop48 : ∀ (n48 i48 : Nat) (X48 : (Nat → Int32) × (Nat → Int32)) (H : Heap) (locs : List Loc) (ls : Array Slot), i48 + n48 = 11 - i3 → f_X8_swapped_l45 MI mpr mbr mnx mhd mtn pR pW pO qH qW qV qO po sn qn nP nS i3 n48 i48 X48 = f_X8_swapped_l45 MI mpr mbr mnx mhd mtn pR pW pO qH qW qV qO po sn qn nP nS i3 (11 - i3) 0 (X3.1, X3.2) → va_P D vwCl [(o, eMM r (.ref ma) fr (upd I 0 0) L), (ma, eMI mr MI), ((mr 11), aI k 6 mpr), ((mr 12), aI k 5 mbr), ((mr 13), aI k 5 mnx), ((mr 14), aI k 4 mhd), ((mr 15), aI k 20 mtn), ((r 17), aI k 37 X48.1), ((r 20), aI k 12 pR), ((r 21), aI k 12 pW), ((r 22), aI k 12 pO), ((r 24), aI k 24 qH), ((r 25), aI k 24 qW), ((r 26), aI k 24 qV), ((r 27), aI k 24 qO), ((r 28), aI k 100 X48.2)] H → va_D A [(o, eMM r (.ref ma) fr (upd I 0 0) L), (ma, eMI mr MI), ((mr 11), aI k 6 mpr), ((mr 12), aI k 5 mbr), ((mr 13), aI k 5 mnx), ((mr 14), aI k 4 mhd), ((mr 15), aI k 20 mtn), ((r 17), aI k 37 X48.1), ((r 20), aI k 12 pR), ((r 21), aI k 12 pW), ((r 22), aI k 12 pO), ((r 24), aI k 24 qH), ((r 25), aI k 24 qW), ((r 26), aI k 24 qV), ((r 27), aI k 24 qO), ((r 28), aI k 100 X48.2)] → va_S A s.heap H locs → lv_has ls 3 [(2, .int (nI ((i3 + 1) + i48))), (1, .int (nI i3)), (0, .ref o)] → W p l e rm_X8_swapped s m ([.ref o] : List Value).toArray below meth c H locs 0 0 (MQ below (q_X8_swapped D k o r fr I L ma mr MI mpr mbr mnx mhd mtn tw pR pW pO qH qW qV qO fi po sn qn nP nS A) ([.ref o] : List Value).toArray s 0 0 A) (F0 m 45 ls []) := by
          intro n48
          induction n48 with
          | zero =>
            intro i48 X48 H locs ls hn48 eX48 hP hD hS hl
            have hi48 : i48 = 11 - i3 := by omega
            replace eX48 : f_X8_swapped_l45 MI mpr mbr mnx mhd mtn pR pW pO qH qW qV qO po sn qn nP nS i3 (11 - i3) 0 (X3.1, X3.2) = Sum.inr X48 := eX48.symm
            refine lv_iload_n hx hb dX8_swapped_45 rfl (lv_at hl 0 rfl) ?_
            refine lv_bipush (v := 12) hx hb dX8_swapped_46 cb_12 ?_
            refine lv_icmp_ge (tgt := 77) hx hb dX8_swapped_48 (by decide) (fun _ => ?_) (fun c => absurd (xle_t xl_12 rfl (by omega) (by omega)) c)
            refine lv_iinc (v := (nI (i3 + 1))) (lv' := [(1, .int (nI (i3 + 1))), (2, .int (nI ((i3 + 1) + i48))), (0, .ref o)]) hx hb dX8_swapped_77 hl (k := 1) rfl (xinc1 _) (Nat.le_of_ble_eq_true rfl) rfl (fun ls hl => ?_)
            refine lv_goto (tgt := 35) hx hb dX8_swapped_80 (by decide) ?_
            exact ih3 (i3 + 1) (X48.1, X48.2) _ _ _ (by omega) (Eq.trans (by subst ex47; exact Eq.symm (Eq.trans (xm_r eX48) (rfl))) eX3) hP hD hS (lv_sub hl [0, 2] rfl)
          | succ n48 ih48 =>
            intro i48 X48 H locs ls hn48 eX48 hP hD hS hl
            have hi48 : i48 < 11 - i3 := by omega
            refine lv_iload_n hx hb dX8_swapped_45 rfl (lv_at hl 0 rfl) ?_
            refine lv_bipush (v := 12) hx hb dX8_swapped_46 cb_12 ?_
            refine lv_icmp_ge (tgt := 77) hx hb dX8_swapped_48 (by decide) (fun c => absurd c (xle_f xl_12 rfl (by omega) (by omega))) (fun _ => ?_)
            refine lv_aload_n hx hb dX8_swapped_51 rfl (lv_at hl 2 rfl) ?_
            refine lv_iload_n hx hb dX8_swapped_52 rfl (lv_at hl 1 rfl) ?_
            refine lv_iload_n hx hb dX8_swapped_53 rfl (lv_at hl 0 rfl) ?_
            refine xc_i (wc := [(o, eMM r (.ref ma) fr (upd I 0 0) L), (ma, eMI mr MI), ((mr 11), aI k 6 mpr), ((mr 12), aI k 5 mbr), ((mr 13), aI k 5 mnx), ((mr 14), aI k 4 mhd), ((mr 15), aI k 20 mtn), ((r 17), aI k 37 X48.1), ((r 20), aI k 12 pR), ((r 21), aI k 12 pW), ((r 22), aI k 12 pO), ((r 24), aI k 24 qH), ((r 25), aI k 24 qW), ((r 26), aI k 24 qV), ((r 27), aI k 24 qO), ((r 28), aI k 100 X48.2)]) (wr := []) hP hD hS hA [0, 1, 2, 3, 4, 5, 6, 7, 8, 9, 10, 11, 12, 13, 14, 15] [] rfl rfl rfl (by decide) (xrV ⟨hx, hb, hml, hown, hts⟩ hg (m_X8_allFits l D k _ o r fr (upd I 0 0) L ma mr MI mpr mbr mnx mhd mtn X48.1 pR pW pO qH qW qV qO X48.2 po sn qn nP nS (nI i3) (nI ((i3 + 1) + i48)) hmS hS2 hS5 hpr hP1 hP6 hroom hlife hhd hpo hsn hs24 hqw) hP hD [0, 1, 2, 3, 4, 5, 6, 7, 8, 9, 10, 11, 12, 13, 14, 15] rfl rfl trivial (ci := 10) (q0 := 0) rfl rfl rfl q1575 q1577 qs72 q93 q1578 xo_X8_allFits ⟨rfl, rfl⟩ ⟨Nat.le_of_ble_eq_true rfl, Nat.le_of_ble_eq_true rfl⟩ hl.1 (Nat.le_of_ble_eq_true rfl) dX8_swapped_54 ⟨Nat.le_of_ble_eq_true rfl, Nat.le_of_ble_eq_true rfl⟩ rfl) (fun r_ u58 H locs hw hP hD hS hk => ?_)
            obtain ⟨rfl, eu58⟩ := hw
            replace hP : va_P D vwCl [(o, eMM r (.ref ma) fr (upd I 0 0) L), (ma, eMI mr MI), ((mr 11), aI k 6 mpr), ((mr 12), aI k 5 mbr), ((mr 13), aI k 5 mnx), ((mr 14), aI k 4 mhd), ((mr 15), aI k 20 mtn), ((r 17), aI k 37 u58.2.1), ((r 20), aI k 12 pR), ((r 21), aI k 12 pW), ((r 22), aI k 12 pO), ((r 24), aI k 24 qH), ((r 25), aI k 24 qW), ((r 26), aI k 24 qV), ((r 27), aI k 24 qO), ((r 28), aI k 100 u58.2.2)] H := hP.sub [0, 1, 2, 3, 4, 5, 6, 7, 8, 9, 10, 11, 12, 13, 14, 15] rfl
            replace hD : va_D A [(o, eMM r (.ref ma) fr (upd I 0 0) L), (ma, eMI mr MI), ((mr 11), aI k 6 mpr), ((mr 12), aI k 5 mbr), ((mr 13), aI k 5 mnx), ((mr 14), aI k 4 mhd), ((mr 15), aI k 20 mtn), ((r 17), aI k 37 u58.2.1), ((r 20), aI k 12 pR), ((r 21), aI k 12 pW), ((r 22), aI k 12 pO), ((r 24), aI k 24 qH), ((r 25), aI k 24 qW), ((r 26), aI k 24 qV), ((r 27), aI k 24 qO), ((r 28), aI k 100 u58.2.2)] := hD.sub [0, 1, 2, 3, 4, 5, 6, 7, 8, 9, 10, 11, 12, 13, 14, 15] (by decide) rfl
            refine lv_if_le (tgt := 71) hx hb dX8_swapped_57 (by decide) (fun c59 => ?_) (fun c59 => ?_)
            · refine lv_iinc (v := (nI (((i3 + 1) + i48) + 1))) (lv' := [(2, .int (nI (((i3 + 1) + i48) + 1))), (1, .int (nI i3)), (0, .ref o)]) hx hb dX8_swapped_71 hl (k := 0) rfl (xinc1 _) (Nat.le_of_ble_eq_true rfl) rfl (fun ls hl => ?_)
              refine lv_goto (tgt := 45) hx hb dX8_swapped_74 (by decide) ?_
              exact ih48 (i48 + 1) (u58.2.1, u58.2.2) _ _ _ (by omega) (Eq.trans (by subst eu58; exact Eq.symm (Eq.trans (if_pos c59) (rfl))) eX48) hP hD hS (lv_sub hl [0, 1, 2] rfl)
            · refine lv_aload_n hx hb dX8_swapped_60 rfl (lv_at hl 2 rfl) ?_
              refine lv_bipush (v := 100) hx hb dX8_swapped_61 cb_100 ?_
              refine lv_iload_n hx hb dX8_swapped_63 rfl (lv_at hl 1 rfl) ?_
              refine lv_imul hx hb dX8_swapped_64 ?_
              refine lv_iload_n hx hb dX8_swapped_65 rfl (lv_at hl 0 rfl) ?_
              refine lv_iadd hx hb dX8_swapped_66 ?_
              refine xc_i (wc := [(o, eMM r (.ref ma) fr (upd I 0 0) L)]) (wr := [(ma, eMI mr MI), ((mr 11), aI k 6 mpr), ((mr 12), aI k 5 mbr), ((mr 13), aI k 5 mnx), ((mr 14), aI k 4 mhd), ((mr 15), aI k 20 mtn), ((r 17), aI k 37 u58.2.1), ((r 20), aI k 12 pR), ((r 21), aI k 12 pW), ((r 22), aI k 12 pO), ((r 24), aI k 24 qH), ((r 25), aI k 24 qW), ((r 26), aI k 24 qV), ((r 27), aI k 24 qO), ((r 28), aI k 100 u58.2.2)]) hP hD hS hA [0] [1, 2, 3, 4, 5, 6, 7, 8, 9, 10, 11, 12, 13, 14, 15] rfl rfl rfl (by decide) (xrV ⟨hx, hb, hml, hown, hts⟩ hg (m_X8_done l D k _ o r (.ref ma) fr (upd I 0 0) L ((100 * (nI i3)) + (nI ((i3 + 1) + i48)))) hP hD [0] rfl rfl trivial (ci := 10) (q0 := 0) rfl rfl rfl q1482 q1484 qs60 q93 q1485 xo_X8_done ⟨rfl, rfl⟩ ⟨Nat.le_of_ble_eq_true rfl, Nat.le_of_ble_eq_true rfl⟩ hl.1 (Nat.le_of_ble_eq_true rfl) dX8_swapped_67 ⟨Nat.le_of_ble_eq_true rfl, Nat.le_of_ble_eq_true rfl⟩ rfl) (fun r_ u60 H locs hw hP hD hS hk => ?_)
              obtain ⟨rfl, eu60⟩ := hw
              replace hP : va_P D vwCl [(o, eMM r (.ref ma) fr (upd (upd (upd I 0 0) 1 u60.2.1) 2 u60.2.2) L), (ma, eMI mr MI), ((mr 11), aI k 6 mpr), ((mr 12), aI k 5 mbr), ((mr 13), aI k 5 mnx), ((mr 14), aI k 4 mhd), ((mr 15), aI k 20 mtn), ((r 17), aI k 37 u58.2.1), ((r 20), aI k 12 pR), ((r 21), aI k 12 pW), ((r 22), aI k 12 pO), ((r 24), aI k 24 qH), ((r 25), aI k 24 qW), ((r 26), aI k 24 qV), ((r 27), aI k 24 qO), ((r 28), aI k 100 u58.2.2)] H := hP.sub [15, 0, 1, 2, 3, 4, 5, 6, 7, 8, 9, 10, 11, 12, 13, 14] rfl
              replace hD : va_D A [(o, eMM r (.ref ma) fr (upd (upd (upd I 0 0) 1 u60.2.1) 2 u60.2.2) L), (ma, eMI mr MI), ((mr 11), aI k 6 mpr), ((mr 12), aI k 5 mbr), ((mr 13), aI k 5 mnx), ((mr 14), aI k 4 mhd), ((mr 15), aI k 20 mtn), ((r 17), aI k 37 u58.2.1), ((r 20), aI k 12 pR), ((r 21), aI k 12 pW), ((r 22), aI k 12 pO), ((r 24), aI k 24 qH), ((r 25), aI k 24 qW), ((r 26), aI k 24 qV), ((r 27), aI k 24 qO), ((r 28), aI k 100 u58.2.2)] := hD.sub [15, 0, 1, 2, 3, 4, 5, 6, 7, 8, 9, 10, 11, 12, 13, 14] (by decide) rfl
              exact xret_i hx hb hr hlocks (Nat.le_of_ble_eq_true rfl) (Nat.le_of_ble_eq_true rfl) hS.2.2 dX8_swapped_70 (fun t ht => ⟨⟨u60.1, (u60.1, 0, u60.2.1, u60.2.2, u58.2.1, u58.2.2), rfl, ⟨rfl, (by subst eu60; subst eu58; subst ex47; subst eu1; exact Eq.symm (Eq.trans (if_pos c2) (xm_l0 (Eq.trans eX3.symm (xm_l1 (Eq.trans eX48.symm (Eq.trans (if_neg c59) (rfl))))))))⟩, by rw [ht]; exact hP, hD⟩, hS.F ht⟩)
        exact loop48 (11 - i3) 0 (X3.1, X3.2) _ _ _ (by omega) rfl hP hD hS (by rw [show nI ((i3 + 1) + 0) = x47 from (by rw [ex47]; exact nI_succ _)]; exact (lv_sub hl [0, 1, 2] rfl))
    exact loop3 12 0 (u1.2.1, u1.2.2) _ _ _ (by omega) rfl hP hD hS (lv_sub hl [0, 1] rfl)
  · refine lv_aload_n hx hb dX8_swapped_27 rfl (lv_at hl 0 rfl) ?_
    refine lv_iconst (v := 5) hx hb dX8_swapped_28 ci_5 ?_
    refine xc_i (wc := [(o, eMM r (.ref ma) fr (upd I 0 0) L)]) (wr := [(ma, eMI mr MI), ((mr 11), aI k 6 mpr), ((mr 12), aI k 5 mbr), ((mr 13), aI k 5 mnx), ((mr 14), aI k 4 mhd), ((mr 15), aI k 20 mtn), ((r 17), aI k 37 u1.2.1), ((r 20), aI k 12 pR), ((r 21), aI k 12 pW), ((r 22), aI k 12 pO), ((r 24), aI k 24 qH), ((r 25), aI k 24 qW), ((r 26), aI k 24 qV), ((r 27), aI k 24 qO), ((r 28), aI k 100 u1.2.2)]) hP hD hS hA [0] [1, 2, 3, 4, 5, 6, 7, 8, 9, 10, 11, 12, 13, 14, 15] rfl rfl rfl (by decide) (xrV ⟨hx, hb, hml, hown, hts⟩ hg (m_X8_refused l D k _ o r (.ref ma) fr (upd I 0 0) L 5) hP hD [0] rfl rfl trivial (ci := 10) (q0 := 0) rfl rfl rfl q1265 q1267 qs39 q93 q1268 xo_X8_refused ⟨rfl, rfl⟩ ⟨Nat.le_of_ble_eq_true rfl, Nat.le_of_ble_eq_true rfl⟩ hl.1 (Nat.le_of_ble_eq_true rfl) dX8_swapped_29 ⟨Nat.le_of_ble_eq_true rfl, Nat.le_of_ble_eq_true rfl⟩ rfl) (fun r_ u61 H locs hw hP hD hS hk => ?_)
    obtain ⟨rfl, eu61⟩ := hw
    replace hP : va_P D vwCl [(o, eMM r (.ref ma) fr (upd (upd (upd I 0 0) 1 u61.2.1) 2 u61.2.2) L), (ma, eMI mr MI), ((mr 11), aI k 6 mpr), ((mr 12), aI k 5 mbr), ((mr 13), aI k 5 mnx), ((mr 14), aI k 4 mhd), ((mr 15), aI k 20 mtn), ((r 17), aI k 37 u1.2.1), ((r 20), aI k 12 pR), ((r 21), aI k 12 pW), ((r 22), aI k 12 pO), ((r 24), aI k 24 qH), ((r 25), aI k 24 qW), ((r 26), aI k 24 qV), ((r 27), aI k 24 qO), ((r 28), aI k 100 u1.2.2)] H := hP.sub [15, 0, 1, 2, 3, 4, 5, 6, 7, 8, 9, 10, 11, 12, 13, 14] rfl
    replace hD : va_D A [(o, eMM r (.ref ma) fr (upd (upd (upd I 0 0) 1 u61.2.1) 2 u61.2.2) L), (ma, eMI mr MI), ((mr 11), aI k 6 mpr), ((mr 12), aI k 5 mbr), ((mr 13), aI k 5 mnx), ((mr 14), aI k 4 mhd), ((mr 15), aI k 20 mtn), ((r 17), aI k 37 u1.2.1), ((r 20), aI k 12 pR), ((r 21), aI k 12 pW), ((r 22), aI k 12 pO), ((r 24), aI k 24 qH), ((r 25), aI k 24 qW), ((r 26), aI k 24 qV), ((r 27), aI k 24 qO), ((r 28), aI k 100 u1.2.2)] := hD.sub [15, 0, 1, 2, 3, 4, 5, 6, 7, 8, 9, 10, 11, 12, 13, 14] (by decide) rfl
    exact xret_i hx hb hr hlocks (Nat.le_of_ble_eq_true rfl) (Nat.le_of_ble_eq_true rfl) hS.2.2 dX8_swapped_32 (fun t ht => ⟨⟨u61.1, (u61.1, 0, u61.2.1, u61.2.2, u1.2.1, u1.2.2), rfl, ⟨rfl, (by subst eu61; subst eu1; exact Eq.symm (Eq.trans (if_neg c2) (rfl)))⟩, by rw [ht]; exact hP, hD⟩, hS.F ht⟩)

def f_X8_swappedN  : Int32 × Int32 × Int32 × Int32 :=
  let u1 := f_X8_refused 1
  (u1.1, 0, u1.2.1, u1.2.2)
abbrev q_X8_swappedN (D : va_G) (k : KK) (o : Nat) (r : Nat → Nat) (fr : Value) (I : Nat → Int32) (L : Nat → Int64) (A : Nat → Prop) : Array Value → State → Outcome → State → Prop := va_Qi (fun (r_ : Int32) (u : Int32 × Int32 × Int32 × Int32) => r_ = u.1 ∧ u = f_X8_swappedN) (bx D (fun u => [(o, eMM r .null fr (upd (upd (upd I 0 u.2.1) 1 u.2.2.1) 2 u.2.2.2) L)]) A) A
abbrev rm_X8_swappedN : Room := { frames := 7, cells := 0, slots := 0, locals := 280 }
set_option maxHeartbeats 8000000 in
theorem m_X8_swappedN (l : Launch) (D : va_G) (k : KK) (sz : Nat) (o : Nat) (r : Nat → Nat) (fr : Value) (I : Nat → Int32) (L : Nat → Int64)  : Met l yX8_swapped (ws_ yX8_swapped cX8_swapped 3 (some .int)) rm_X8_swappedN (pcx D k [.ref o] sz [(o, eMM r .null fr I L)] (fun _ => True)) (q_X8_swappedN D k o r fr I L (va_A [(o, eMM r .null fr I L)] sz)) 0 0 (va_A [(o, eMM r .null fr I L)] sz) := by
  refine Met.start (Qc := q_X8_swappedN D k o r fr I L) (by decide) (Nat.le_of_ble_eq_true rfl) ?_
  intro p e s m below meth c A hx hb hr hlocks hml hown hin hts hg hP hD hA hAn hS hY hsz ls hl
  have hown : s.vm.findClass RX8 = some m.cls := hown
  have hl : lv_has ls 3 [(0, .ref o)] := hl
  refine lv_aload_n hx hb dX8_swapped_0 rfl (lv_at hl 0 rfl) ?_
  refine lv_iconst (v := 0) hx hb dX8_swapped_1 ci_0 ?_
  refine va_put (D := D) (ci := 10) (v := .int 0) (C := RX8) (T := TX8) (N := 37) hx hb hts in_X8 tyX8 tyX8_ok nmX8 hown hg.1 hP hD hS 0 rfl rfl 0 (Nat.le_of_ble_eq_true rfl) (hts _ q1141) (fun _ h9 => h9) rfl ftX8_0 rfl rfl (Nat.le_of_ble_eq_true rfl) dX8_swapped_2 (fun H locs hP hD hS => ?_)
  replace hP : va_P D vwCl [(o, eMM r .null fr (upd I 0 0) L)] H := hP
  replace hD : va_D A [(o, eMM r .null fr (upd I 0 0) L)] := hD
  refine lv_aload_n hx hb dX8_swapped_5 rfl (lv_at hl 0 rfl) ?_
  refine va_get (D := D) (ci := 10) (v := .null) (C := RX8) (T := TX8) (N := 37) hx hb hts in_X8 hown hg.1 hP 0 rfl rfl 3 (Nat.le_of_ble_eq_true rfl) (hts _ q1144) (fun _ h9 => h9) rfl dX8_swapped_6 ?_
  refine lv_ifnonnullN hx hb dX8_swapped_9 ?_
  refine lv_aload_n hx hb dX8_swapped_12 rfl (lv_at hl 0 rfl) ?_
  refine lv_iconst (v := 1) hx hb dX8_swapped_13 ci_1 ?_
  refine xc_i (wc := [(o, eMM r .null fr (upd I 0 0) L)]) (wr := []) hP hD hS hA [0] [] rfl rfl rfl (by decide) (xrV ⟨hx, hb, hml, hown, hts⟩ hg (m_X8_refused l D k _ o r .null fr (upd I 0 0) L 1) hP hD [0] rfl rfl trivial (ci := 10) (q0 := 0) rfl rfl rfl q1265 q1267 qs39 q93 q1268 xo_X8_refused ⟨rfl, rfl⟩ ⟨Nat.le_of_ble_eq_true rfl, Nat.le_of_ble_eq_true rfl⟩ hl.1 (Nat.le_of_ble_eq_true rfl) dX8_swapped_14 ⟨Nat.le_of_ble_eq_true rfl, Nat.le_of_ble_eq_true rfl⟩ rfl) (fun r_ u1 H locs hw hP hD hS hk => ?_)
  obtain ⟨rfl, eu1⟩ := hw
  replace hP : va_P D vwCl [(o, eMM r .null fr (upd (upd (upd I 0 0) 1 u1.2.1) 2 u1.2.2) L)] H := hP.sub [0] rfl
  replace hD : va_D A [(o, eMM r .null fr (upd (upd (upd I 0 0) 1 u1.2.1) 2 u1.2.2) L)] := hD.sub [0] (by decide) rfl
  exact xret_i hx hb hr hlocks (Nat.le_of_ble_eq_true rfl) (Nat.le_of_ble_eq_true rfl) hS.2.2 dX8_swapped_17 (fun t ht => ⟨⟨u1.1, (u1.1, 0, u1.2.1, u1.2.2), rfl, ⟨rfl, (by subst eu1; exact rfl)⟩, by rw [ht]; exact hP, hD⟩, hS.F ht⟩)

def f_X8_isWell_l6 (MI : Nat → Int32) (mpr : Nat → Int32) (mbr : Nat → Int32) (mnx : Nat → Int32) (mhd : Nat → Int32) (mtn : Nat → Int32) (sv : Nat → Int32) (ore : Nat) (now : Nat) (nP : Nat) (nS : Nat) (x : Int32) (al : Int32) : Nat → Nat → ((Nat → Int32) × (Nat → Int32)) → (Int32 × (Nat → Int32) × (Nat → Int32)) ⊕ ((Nat → Int32) × (Nat → Int32))
  | 0, i2, X2 => .inr X2
  | n2 + 1, i2, X2 => let x24 := ((al >>> ((2 * ((x - 1) - (nI i2))) &&& 31)) &&& 3)
    let f25 := upd X2.2 i2 x24
    let x26 := (f25 i2)
    let f27 := upd X2.1 34 x26
    let u28 := f_X8_goes MI mpr mbr mnx mhd mtn f27 ore nP (now + i2) nS
    if (u28 26) = 1 then
      .inl (0, u28, f25)
    else
      if (u28 23) = (sv 23) then
        f_X8_isWell_l6 MI mpr mbr mnx mhd mtn sv ore now nP nS x al n2 (i2 + 1) (u28, f25)
      else
        .inl (0, u28, f25)
def f_X8_isWell (MI : Nat → Int32) (mpr : Nat → Int32) (mbr : Nat → Int32) (mnx : Nat → Int32) (mhd : Nat → Int32) (mtn : Nat → Int32) (sv : Nat → Int32) (tw : Nat → Int32) (ra : Nat → Int32) (ore : Nat) (now : Nat) (nP : Nat) (nS : Nat) (x : Int32) (al : Int32) (nj : Nat) : Int32 × (Nat → Int32) × (Nat → Int32) :=
  let u1 := f_X8_copies sv tw
  Sum.elim (fun r_ => r_) (fun X2 =>
    (1, X2.1, X2.2)) (f_X8_isWell_l6 MI mpr mbr mnx mhd mtn sv ore now nP nS x al nj 0 (u1, ra))
abbrev q_X8_isWell (D : va_G) (k : KK) (o : Nat) (r : Nat → Nat) (fr : Value) (I : Nat → Int32) (L : Nat → Int64) (ma : Nat) (mr : Nat → Nat) (MI : Nat → Int32) (mpr : Nat → Int32) (mbr : Nat → Int32) (mnx : Nat → Int32) (mhd : Nat → Int32) (mtn : Nat → Int32) (sv : Nat → Int32) (tw : Nat → Int32) (ra : Nat → Int32) (ore : Nat) (now : Nat) (nP : Nat) (nS : Nat) (x : Int32) (al : Int32) (nj : Nat) (A : Nat → Prop) : Array Value → State → Outcome → State → Prop := va_Qi (fun (r_ : Int32) (u : Int32 × (Nat → Int32) × (Nat → Int32)) => r_ = u.1 ∧ u = f_X8_isWell MI mpr mbr mnx mhd mtn sv tw ra ore now nP nS x al nj ∧ (r_ = 0 ∨ r_ = 1)) (bx D (fun u => [(o, eMM r (.ref ma) fr I L), (ma, eMI mr MI), ((mr 11), aI k 6 mpr), ((mr 12), aI k 5 mbr), ((mr 13), aI k 5 mnx), ((mr 14), aI k 4 mhd), ((mr 15), aI k 20 mtn), ((r 16), aI k 37 sv), ((r 17), aI k 37 u.2.1), ((r 31), aI k 5 u.2.2)]) A) A
abbrev rm_X8_isWell : Room := { frames := 4, cells := 0, slots := 0, locals := 160 }
theorem xo_X8_isWell : xok yX8_isWell 2 := by unfold xok; decide +kernel
set_option maxHeartbeats 8000000 in
theorem m_X8_isWell (l : Launch) (D : va_G) (k : KK) (sz : Nat) (o : Nat) (r : Nat → Nat) (fr : Value) (I : Nat → Int32) (L : Nat → Int64) (ma : Nat) (mr : Nat → Nat) (MI : Nat → Int32) (mpr : Nat → Int32) (mbr : Nat → Int32) (mnx : Nat → Int32) (mhd : Nat → Int32) (mtn : Nat → Int32) (sv : Nat → Int32) (tw : Nat → Int32) (ra : Nat → Int32) (ore : Nat) (now : Nat) (nP : Nat) (nS : Nat) (x : Int32) (al : Int32) (nj : Nat) (hmS : MI 8 = nI nS) (hS2 : 2 ≤ nS) (hS5 : nS ≤ 5) (hpr : MI 7 = nI nP) (hP1 : 1 ≤ nP) (hP6 : nP ≤ 6) (hroom : ¬ MI 0 = 0) (hlife : ¬ MI 4 = 0) (hhd : ∀ j, j < 4 → ¬ 9 + mhd j = 0) (hs36 : sv 36 = nI ore) (hore : ore < 4) (hs27 : sv 27 = nI now) (hnb : now ≤ 240) (hnj : x = nI nj) (hn5 : nj ≤ 5) : Met l yX8_isWell (ws_ yX8_isWell cX8_isWell 4 (some .boolean)) rm_X8_isWell (pcx D k [.ref o, .int x, .int al] sz [(o, eMM r (.ref ma) fr I L), (ma, eMI mr MI), ((mr 11), aI k 6 mpr), ((mr 12), aI k 5 mbr), ((mr 13), aI k 5 mnx), ((mr 14), aI k 4 mhd), ((mr 15), aI k 20 mtn), ((r 16), aI k 37 sv), ((r 17), aI k 37 tw), ((r 31), aI k 5 ra)] (fun _ => True)) (q_X8_isWell D k o r fr I L ma mr MI mpr mbr mnx mhd mtn sv tw ra ore now nP nS x al nj (va_A [(o, eMM r (.ref ma) fr I L), (ma, eMI mr MI), ((mr 11), aI k 6 mpr), ((mr 12), aI k 5 mbr), ((mr 13), aI k 5 mnx), ((mr 14), aI k 4 mhd), ((mr 15), aI k 20 mtn), ((r 16), aI k 37 sv), ((r 17), aI k 37 tw), ((r 31), aI k 5 ra)] sz)) 0 0 (va_A [(o, eMM r (.ref ma) fr I L), (ma, eMI mr MI), ((mr 11), aI k 6 mpr), ((mr 12), aI k 5 mbr), ((mr 13), aI k 5 mnx), ((mr 14), aI k 4 mhd), ((mr 15), aI k 20 mtn), ((r 16), aI k 37 sv), ((r 17), aI k 37 tw), ((r 31), aI k 5 ra)] sz) := by
  refine Met.start (Qc := q_X8_isWell D k o r fr I L ma mr MI mpr mbr mnx mhd mtn sv tw ra ore now nP nS x al nj) (by decide) (Nat.le_of_ble_eq_true rfl) ?_
  intro p e s m below meth c A hx hb hr hlocks hml hown hin hts hg hP hD hA hAn hS hY hsz ls hl
  have hown : s.vm.findClass RX8 = some m.cls := hown
  have hl : lv_has ls 4 [(0, .ref o), (1, .int x), (2, .int al)] := hl
  refine lv_aload_n hx hb dX8_isWell_0 rfl (lv_at hl 0 rfl) ?_
  refine xc_v (wc := [(o, eMM r (.ref ma) fr I L), ((r 16), aI k 37 sv), ((r 17), aI k 37 tw)]) (wr := [(ma, eMI mr MI), ((mr 11), aI k 6 mpr), ((mr 12), aI k 5 mbr), ((mr 13), aI k 5 mnx), ((mr 14), aI k 4 mhd), ((mr 15), aI k 20 mtn), ((r 31), aI k 5 ra)]) hP hD hS hA [0, 7, 8] [1, 2, 3, 4, 5, 6, 9] rfl rfl rfl (by decide) (xrV ⟨hx, hb, hml, hown, hts⟩ hg (m_X8_copies l D k _ o r (.ref ma) fr I L sv tw) hP hD [0, 7, 8] rfl rfl trivial (ci := 10) (q0 := 0) rfl rfl rfl q1628 q1630 qs78 q93 q1631 xo_X8_copies ⟨rfl, rfl⟩ ⟨Nat.le_of_ble_eq_true rfl, Nat.le_of_ble_eq_true rfl⟩ hl.1 (Nat.le_of_ble_eq_true rfl) dX8_isWell_1 ⟨Nat.le_of_ble_eq_true rfl, Nat.le_of_ble_eq_true rfl⟩ rfl) (fun u1 H locs hw hP hD hS hk => ?_)
  have eu1 := hw
  replace hP : va_P D vwCl [(o, eMM r (.ref ma) fr I L), (ma, eMI mr MI), ((mr 11), aI k 6 mpr), ((mr 12), aI k 5 mbr), ((mr 13), aI k 5 mnx), ((mr 14), aI k 4 mhd), ((mr 15), aI k 20 mtn), ((r 16), aI k 37 sv), ((r 17), aI k 37 u1), ((r 31), aI k 5 ra)] H := hP.sub [7, 0, 1, 2, 3, 4, 5, 8, 9, 6] rfl
  replace hD : va_D A [(o, eMM r (.ref ma) fr I L), (ma, eMI mr MI), ((mr 11), aI k 6 mpr), ((mr 12), aI k 5 mbr), ((mr 13), aI k 5 mnx), ((mr 14), aI k 4 mhd), ((mr 15), aI k 20 mtn), ((r 16), aI k 37 sv), ((r 17), aI k 37 u1), ((r 31), aI k 5 ra)] := hD.sub [7, 0, 1, 2, 3, 4, 5, 8, 9, 6] (by decide) rfl
  refine lv_iconst (v := 0) hx hb dX8_isWell_4 ci_0 ?_
  refine lv_istore_n (lv' := [(3, .int 0), (0, .ref o), (1, .int x), (2, .int al)]) hx hb dX8_isWell_5 rfl hl (Nat.le_of_ble_eq_true rfl) rfl (fun ls hl => ?_)
  have loop2 : ∀ (n2 i2 : Nat) (X2 : (Nat → Int32) × (Nat → Int32)) (H : Heap) (locs : List Loc) (ls : Array Slot), i2 + n2 = nj → f_X8_isWell_l6 MI mpr mbr mnx mhd mtn sv ore now nP nS x al n2 i2 X2 = f_X8_isWell_l6 MI mpr mbr mnx mhd mtn sv ore now nP nS x al nj 0 (u1, ra) → (X2.1 27 = nI (now + i2) ∧ X2.1 36 = nI ore) → va_P D vwCl [(o, eMM r (.ref ma) fr I L), (ma, eMI mr MI), ((mr 11), aI k 6 mpr), ((mr 12), aI k 5 mbr), ((mr 13), aI k 5 mnx), ((mr 14), aI k 4 mhd), ((mr 15), aI k 20 mtn), ((r 16), aI k 37 sv), ((r 17), aI k 37 X2.1), ((r 31), aI k 5 X2.2)] H → va_D A [(o, eMM r (.ref ma) fr I L), (ma, eMI mr MI), ((mr 11), aI k 6 mpr), ((mr 12), aI k 5 mbr), ((mr 13), aI k 5 mnx), ((mr 14), aI k 4 mhd), ((mr 15), aI k 20 mtn), ((r 16), aI k 37 sv), ((r 17), aI k 37 X2.1), ((r 31), aI k 5 X2.2)] → va_S A s.heap H locs → lv_has ls 4 [(3, .int (nI i2)), (0, .ref o), (1, .int x), (2, .int al)] → W p l e rm_X8_isWell s m ([.ref o, .int x, .int al] : List Value).toArray below meth c H locs 0 0 (MQ below (q_X8_isWell D k o r fr I L ma mr MI mpr mbr mnx mhd mtn sv tw ra ore now nP nS x al nj A) ([.ref o, .int x, .int al] : List Value).toArray s 0 0 A) (F0 m 6 ls []) := by
    intro n2
    induction n2 with
    | zero =>
      intro i2 X2 H locs ls hn2 eX2 hv2 hP hD hS hl
      have hi2 : i2 = nj := by omega
      replace eX2 : f_X8_isWell_l6 MI mpr mbr mnx mhd mtn sv ore now nP nS x al nj 0 (u1, ra) = Sum.inr X2 := eX2.symm
      refine lv_iload_n hx hb dX8_isWell_6 rfl (lv_at hl 0 rfl) ?_
      refine lv_iload_n hx hb dX8_isWell_7 rfl (lv_at hl 2 rfl) ?_
      refine lv_icmp_ge (tgt := 85) hx hb dX8_isWell_8 (by decide) (fun _ => ?_) (fun c => absurd (xle_t hnj rfl (by omega) (by omega)) c)
      refine lv_iconst (v := 1) hx hb dX8_isWell_85 ci_1 ?_
      exact xret_z hx hb hr hlocks (Nat.le_of_ble_eq_true rfl) (Nat.le_of_ble_eq_true rfl) hS.2.2 dX8_isWell_86 (Or.inr rfl) (fun t ht => ⟨⟨1, (1, X2.1, X2.2), rfl, ⟨rfl, (by subst eu1; exact Eq.symm (Eq.trans (xm_r eX2) (rfl))), (Or.inr rfl)⟩, by rw [ht]; exact hP, hD⟩, hS.F ht⟩)
    | succ n2 ih2 =>
      intro i2 X2 H locs ls hn2 eX2 hv2 hP hD hS hl
      have hi2 : i2 < nj := by omega
      refine lv_iload_n hx hb dX8_isWell_6 rfl (lv_at hl 0 rfl) ?_
      refine lv_iload_n hx hb dX8_isWell_7 rfl (lv_at hl 2 rfl) ?_
      refine lv_icmp_ge (tgt := 85) hx hb dX8_isWell_8 (by decide) (fun c => absurd c (xle_f hnj rfl (by omega) (by omega))) (fun _ => ?_)
      refine lv_aload_n hx hb dX8_isWell_11 rfl (lv_at hl 1 rfl) ?_
      refine va_get (D := D) (ci := 10) (v := .ref (r 31)) (C := RX8) (T := TX8) (N := 37) hx hb hts in_X8 hown hg.1 hP 0 rfl rfl 31 (Nat.le_of_ble_eq_true rfl) (hts _ q1172) (fun _ h9 => h9) rfl dX8_isWell_12 ?_
      refine lv_iload_n hx hb dX8_isWell_15 rfl (lv_at hl 0 rfl) ?_
      refine lv_iload_n hx hb dX8_isWell_16 rfl (lv_at hl 3 rfl) ?_
      refine lv_iconst (v := 2) hx hb dX8_isWell_17 ci_2 ?_
      refine lv_iload_n hx hb dX8_isWell_18 rfl (lv_at hl 2 rfl) ?_
      refine lv_iconst (v := 1) hx hb dX8_isWell_19 ci_1 ?_
      refine lv_isub hx hb dX8_isWell_20 ?_
      refine lv_iload_n hx hb dX8_isWell_21 rfl (lv_at hl 0 rfl) ?_
      refine lv_isub hx hb dX8_isWell_22 ?_
      refine lv_imul hx hb dX8_isWell_23 ?_
      refine lv_ishr hx hb dX8_isWell_24 ?_
      refine lv_iconst (v := 3) hx hb dX8_isWell_25 ci_3 ?_
      refine lv_iand hx hb dX8_isWell_26 ?_
      refine lv_topi (fun x24 ex24 => ?_)
      refine xa_iast hx hb hg hP hD hS 9 rfl rfl (by omega) (by omega) dX8_isWell_27 (fun f25 H locs ef25 hP hD hS => ?_)
      replace hP : va_P D vwCl [(o, eMM r (.ref ma) fr I L), (ma, eMI mr MI), ((mr 11), aI k 6 mpr), ((mr 12), aI k 5 mbr), ((mr 13), aI k 5 mnx), ((mr 14), aI k 4 mhd), ((mr 15), aI k 20 mtn), ((r 16), aI k 37 sv), ((r 17), aI k 37 X2.1), ((r 31), aI k 5 f25)] H := hP
      replace hD : va_D A [(o, eMM r (.ref ma) fr I L), (ma, eMI mr MI), ((mr 11), aI k 6 mpr), ((mr 12), aI k 5 mbr), ((mr 13), aI k 5 mnx), ((mr 14), aI k 4 mhd), ((mr 15), aI k 20 mtn), ((r 16), aI k 37 sv), ((r 17), aI k 37 X2.1), ((r 31), aI k 5 f25)] := hD
      refine lv_aload_n hx hb dX8_isWell_28 rfl (lv_at hl 1 rfl) ?_
      refine va_get (D := D) (ci := 10) (v := .ref (r 17)) (C := RX8) (T := TX8) (N := 37) hx hb hts in_X8 hown hg.1 hP 0 rfl rfl 17 (Nat.le_of_ble_eq_true rfl) (hts _ q1158) (fun _ h9 => h9) rfl dX8_isWell_29 ?_
      refine lv_bipush (v := 34) hx hb dX8_isWell_32 cb_34 ?_
      refine lv_aload_n hx hb dX8_isWell_34 rfl (lv_at hl 1 rfl) ?_
      refine va_get (D := D) (ci := 10) (v := .ref (r 31)) (C := RX8) (T := TX8) (N := 37) hx hb hts in_X8 hown hg.1 hP 0 rfl rfl 31 (Nat.le_of_ble_eq_true rfl) (hts _ q1172) (fun _ h9 => h9) rfl dX8_isWell_35 ?_
      refine lv_iload_n hx hb dX8_isWell_38 rfl (lv_at hl 0 rfl) ?_
      refine xa_iald hx hb hg hP 9 rfl rfl (by first | omega | exact Nat.lt_of_lt_of_le (Nat.mod_lt _ (by omega)) (by omega)) (by omega) dX8_isWell_39 ?_
      refine lv_topi (fun x26 ex26 => ?_)
      refine xa_iast hx hb hg hP hD hS 8 rfl xl_34 (by omega) (by omega) dX8_isWell_40 (fun f27 H locs ef27 hP hD hS => ?_)
      replace hP : va_P D vwCl [(o, eMM r (.ref ma) fr I L), (ma, eMI mr MI), ((mr 11), aI k 6 mpr), ((mr 12), aI k 5 mbr), ((mr 13), aI k 5 mnx), ((mr 14), aI k 4 mhd), ((mr 15), aI k 20 mtn), ((r 16), aI k 37 sv), ((r 17), aI k 37 f27), ((r 31), aI k 5 f25)] H := hP
      replace hD : va_D A [(o, eMM r (.ref ma) fr I L), (ma, eMI mr MI), ((mr 11), aI k 6 mpr), ((mr 12), aI k 5 mbr), ((mr 13), aI k 5 mnx), ((mr 14), aI k 4 mhd), ((mr 15), aI k 20 mtn), ((r 16), aI k 37 sv), ((r 17), aI k 37 f27), ((r 31), aI k 5 f25)] := hD
      refine lv_aload_n hx hb dX8_isWell_41 rfl (lv_at hl 1 rfl) ?_
      refine lv_aload_n hx hb dX8_isWell_42 rfl (lv_at hl 1 rfl) ?_
      refine va_get (D := D) (ci := 10) (v := .ref (r 17)) (C := RX8) (T := TX8) (N := 37) hx hb hts in_X8 hown hg.1 hP 0 rfl rfl 17 (Nat.le_of_ble_eq_true rfl) (hts _ q1158) (fun _ h9 => h9) rfl dX8_isWell_43 ?_
      refine xc_v (wc := [(o, eMM r (.ref ma) fr I L), (ma, eMI mr MI), ((mr 11), aI k 6 mpr), ((mr 12), aI k 5 mbr), ((mr 13), aI k 5 mnx), ((mr 14), aI k 4 mhd), ((mr 15), aI k 20 mtn), ((r 17), aI k 37 f27)]) (wr := [((r 16), aI k 37 sv), ((r 31), aI k 5 f25)]) hP hD hS hA [0, 1, 2, 3, 4, 5, 6, 8] [7, 9] rfl rfl rfl (by decide) (xrV ⟨hx, hb, hml, hown, hts⟩ hg (m_X8_goes l D k _ o r fr I L ma mr MI mpr mbr mnx mhd mtn (r 17) f27 ore nP (now + i2) nS hmS hS2 hS5 hore ((show f27 36 = X2.1 36 by rw [ef27]; exact pk_un (by decide)).trans hv2.2) ((show f27 27 = X2.1 27 by rw [ef27]; exact pk_un (by decide)).trans hv2.1) (by omega) hpr hP1 hP6 hroom hlife (hhd _ hore)) hP hD [0, 1, 2, 3, 4, 5, 6, 8] rfl rfl trivial (ci := 10) (q0 := 0) rfl rfl rfl q1518 q1520 qs64 q93 q1521 xo_X8_goes ⟨rfl, rfl⟩ ⟨Nat.le_of_ble_eq_true rfl, Nat.le_of_ble_eq_true rfl⟩ hl.1 (Nat.le_of_ble_eq_true rfl) dX8_isWell_46 ⟨Nat.le_of_ble_eq_true rfl, Nat.le_of_ble_eq_true rfl⟩ rfl) (fun u28 H locs hw hP hD hS hk => ?_)
      have eu28 := hw
      replace hP : va_P D vwCl [(o, eMM r (.ref ma) fr I L), (ma, eMI mr MI), ((mr 11), aI k 6 mpr), ((mr 12), aI k 5 mbr), ((mr 13), aI k 5 mnx), ((mr 14), aI k 4 mhd), ((mr 15), aI k 20 mtn), ((r 16), aI k 37 sv), ((r 17), aI k 37 u28), ((r 31), aI k 5 f25)] H := hP.sub [2, 3, 4, 5, 6, 7, 8, 0, 9, 1] rfl
      replace hD : va_D A [(o, eMM r (.ref ma) fr I L), (ma, eMI mr MI), ((mr 11), aI k 6 mpr), ((mr 12), aI k 5 mbr), ((mr 13), aI k 5 mnx), ((mr 14), aI k 4 mhd), ((mr 15), aI k 20 mtn), ((r 16), aI k 37 sv), ((r 17), aI k 37 u28), ((r 31), aI k 5 f25)] := hD.sub [2, 3, 4, 5, 6, 7, 8, 0, 9, 1] (by decide) rfl
      refine lv_aload_n hx hb dX8_isWell_49 rfl (lv_at hl 1 rfl) ?_
      refine va_get (D := D) (ci := 10) (v := .ref (r 17)) (C := RX8) (T := TX8) (N := 37) hx hb hts in_X8 hown hg.1 hP 0 rfl rfl 17 (Nat.le_of_ble_eq_true rfl) (hts _ q1158) (fun _ h9 => h9) rfl dX8_isWell_50 ?_
      refine lv_bipush (v := 26) hx hb dX8_isWell_53 cb_26 ?_
      refine xa_iald hx hb hg hP 8 rfl xl_26 (by first | omega | exact Nat.lt_of_lt_of_le (Nat.mod_lt _ (by omega)) (by omega)) (by omega) dX8_isWell_55 ?_
      refine lv_iconst (v := 1) hx hb dX8_isWell_56 ci_1 ?_
      refine lv_icmp_eq (tgt := 77) hx hb dX8_isWell_57 (by decide) (fun c29 => ?_) (fun c29 => ?_)
      · refine lv_iconst (v := 0) hx hb dX8_isWell_77 ci_0 ?_
        exact xret_z hx hb hr hlocks (Nat.le_of_ble_eq_true rfl) (Nat.le_of_ble_eq_true rfl) hS.2.2 dX8_isWell_78 (Or.inl rfl) (fun t ht => ⟨⟨0, (0, u28, f25), rfl, ⟨rfl, (by subst eu28; subst ef27; subst ex26; subst ef25; subst ex24; subst eu1; exact Eq.symm (xm_l0 (Eq.trans eX2.symm (Eq.trans (if_pos c29) (rfl))))), (Or.inl rfl)⟩, by rw [ht]; exact hP, hD⟩, hS.F ht⟩)
      · refine lv_aload_n hx hb dX8_isWell_60 rfl (lv_at hl 1 rfl) ?_
        refine va_get (D := D) (ci := 10) (v := .ref (r 17)) (C := RX8) (T := TX8) (N := 37) hx hb hts in_X8 hown hg.1 hP 0 rfl rfl 17 (Nat.le_of_ble_eq_true rfl) (hts _ q1158) (fun _ h9 => h9) rfl dX8_isWell_61 ?_
        refine lv_bipush (v := 23) hx hb dX8_isWell_64 cb_23 ?_
        refine xa_iald hx hb hg hP 8 rfl xl_23 (by first | omega | exact Nat.lt_of_lt_of_le (Nat.mod_lt _ (by omega)) (by omega)) (by omega) dX8_isWell_66 ?_
        refine lv_aload_n hx hb dX8_isWell_67 rfl (lv_at hl 1 rfl) ?_
        refine va_get (D := D) (ci := 10) (v := .ref (r 16)) (C := RX8) (T := TX8) (N := 37) hx hb hts in_X8 hown hg.1 hP 0 rfl rfl 16 (Nat.le_of_ble_eq_true rfl) (hts _ q1157) (fun _ h9 => h9) rfl dX8_isWell_68 ?_
        refine lv_bipush (v := 23) hx hb dX8_isWell_71 cb_23 ?_
        refine xa_iald hx hb hg hP 7 rfl xl_23 (by first | omega | exact Nat.lt_of_lt_of_le (Nat.mod_lt _ (by omega)) (by omega)) (by omega) dX8_isWell_73 ?_
        refine lv_icmp_eq (tgt := 79) hx hb dX8_isWell_74 (by decide) (fun c30 => ?_) (fun c30 => ?_)
        · refine lv_iinc (v := (nI (i2 + 1))) (lv' := [(3, .int (nI (i2 + 1))), (0, .ref o), (1, .int x), (2, .int al)]) hx hb dX8_isWell_79 hl (k := 0) rfl (xinc1 _) (Nat.le_of_ble_eq_true rfl) rfl (fun ls hl => ?_)
          refine lv_goto (tgt := 6) hx hb dX8_isWell_82 (by decide) ?_
          exact ih2 (i2 + 1) (u28, f25) _ _ _ (by omega) (Eq.trans (by subst eu28; subst ef27; subst ex26; subst ef25; subst ex24; exact Eq.symm (Eq.trans (if_neg c29) (Eq.trans (if_pos c30) (rfl)))) eX2) ⟨(by show u28 27 = nI (now + (i2 + 1)); rw [eu28, go_27 hS5, show f27 27 = nI (now + i2) from ((show f27 27 = X2.1 27 by rw [ef27]; exact pk_un (by decide)).trans hv2.1)]; exact (nI_succ _).symm), (by show u28 36 = nI ore; rw [eu28, go_keep hS5 36 (by decide)]; exact ((show f27 36 = X2.1 36 by rw [ef27]; exact pk_un (by decide)).trans hv2.2))⟩ hP hD hS (lv_sub hl [0, 1, 2, 3] rfl)
        · refine lv_iconst (v := 0) hx hb dX8_isWell_77 ci_0 ?_
          exact xret_z hx hb hr hlocks (Nat.le_of_ble_eq_true rfl) (Nat.le_of_ble_eq_true rfl) hS.2.2 dX8_isWell_78 (Or.inl rfl) (fun t ht => ⟨⟨0, (0, u28, f25), rfl, ⟨rfl, (by subst eu28; subst ef27; subst ex26; subst ef25; subst ex24; subst eu1; exact Eq.symm (xm_l0 (Eq.trans eX2.symm (Eq.trans (if_neg c29) (Eq.trans (if_neg c30) (rfl)))))), (Or.inl rfl)⟩, by rw [ht]; exact hP, hD⟩, hS.F ht⟩)
  exact loop2 nj 0 (u1, ra) _ _ _ (by omega) rfl ⟨(by show u1 27 = nI (now + 0); rw [eu1, cp_at 27 (by decide)]; exact hs27), (by show u1 36 = nI ore; rw [eu1, cp_at 36 (by decide)]; exact hs36)⟩ hP hD hS (lv_sub hl [0, 1, 2, 3] rfl)

def f_X8_plan_l126 (x : Int32) (X4 : (Int32) × (Int32) × (Nat → Int32) × (Nat → Int32)) (i42 : Nat) (X42 : (Nat → Int32)) : (Nat → Int32) :=
  let x50 := ((X4.1 >>> ((2 * ((x - 1) - (nI i42))) &&& 31)) &&& 3)
  let f51 := upd X42 i42 x50
  f51
def f_X8_plan_j4 (sv : Nat → Int32) (X4 : (Int32) × (Int32) × (Nat → Int32) × (Nat → Int32)) (i4 : Nat) (u53 : Int32 × (Nat → Int32) × (Nat → Int32)) : (Int32) × (Int32) :=
  if u53.1 = 0 then
    (X4.1, X4.2.1)
  else
    let x64 := ((u53.2.1 32) - (sv 32))
    if X4.2.1 = (-1) then
      (nI i4, x64)
    else
      if x64 < X4.2.1 then
        (nI i4, x64)
      else
        (X4.1, X4.2.1)
def f_X8_plan_l40 (MI : Nat → Int32) (mpr : Nat → Int32) (mbr : Nat → Int32) (mnx : Nat → Int32) (mhd : Nat → Int32) (mtn : Nat → Int32) (sv : Nat → Int32) (ore : Nat) (now : Nat) (nP : Nat) (nS : Nat) (x : Int32) (i4 : Nat) (X4 : (Int32) × (Int32) × (Nat → Int32) × (Nat → Int32)) : (Int32) × (Int32) × (Nat → Int32) × (Nat → Int32) :=
  let u53 := f_X8_isWell MI mpr mbr mnx mhd mtn sv X4.2.2.1 X4.2.2.2 ore now nP nS x (nI i4) x.toNatClampNeg
  let v62 := f_X8_plan_j4 sv X4 i4 u53
  (v62.1, v62.2, u53.2.1, u53.2.2)
def f_X8_plan (I : Nat → Int32) (MI : Nat → Int32) (mpr : Nat → Int32) (mbr : Nat → Int32) (mnx : Nat → Int32) (mhd : Nat → Int32) (mtn : Nat → Int32) (sv : Nat → Int32) (tw : Nat → Int32) (pl : Nat → Int32) (ra : Nat → Int32) (ore : Nat) (now : Nat) (nP : Nat) (nS : Nat) (x : Int32) : Int32 × Int32 × Int32 × Int32 × Int32 × (Nat → Int32) × (Nat → Int32) × (Nat → Int32) :=
  let u1 := f_X8_in x 1 5
  if u1 = 0 then
    let u67 := f_X8_refused 2
    (u67.1, 0, u67.2.1, u67.2.2, (I 29), tw, pl, ra)
  else
    let j3 := 4 ^ x.toNatClampNeg
    let X4 := itN (f_X8_plan_l40 MI mpr mbr mnx mhd mtn sv ore now nP nS x) j3 (0, (-1), tw, ra)
    if X4.2.1 = (-1) then
      let u52 := f_X8_refused 6
      (u52.1, 0, u52.2.1, u52.2.2, (I 29), X4.2.2.1, pl, X4.2.2.2)
    else
      let X42 := itN (f_X8_plan_l126 x X4) x.toNatClampNeg pl
      let u49 := f_X8_done X4.2.1
      (u49.1, 0, u49.2.1, u49.2.2, x, X4.2.2.1, X42, X4.2.2.2)
abbrev q_X8_plan (D : va_G) (k : KK) (o : Nat) (r : Nat → Nat) (fr : Value) (I : Nat → Int32) (L : Nat → Int64) (ma : Nat) (mr : Nat → Nat) (MI : Nat → Int32) (mpr : Nat → Int32) (mbr : Nat → Int32) (mnx : Nat → Int32) (mhd : Nat → Int32) (mtn : Nat → Int32) (sv : Nat → Int32) (tw : Nat → Int32) (pl : Nat → Int32) (ra : Nat → Int32) (ore : Nat) (now : Nat) (nP : Nat) (nS : Nat) (x : Int32) (A : Nat → Prop) : Array Value → State → Outcome → State → Prop := va_Qi (fun (r_ : Int32) (u : Int32 × Int32 × Int32 × Int32 × Int32 × (Nat → Int32) × (Nat → Int32) × (Nat → Int32)) => r_ = u.1 ∧ u = f_X8_plan I MI mpr mbr mnx mhd mtn sv tw pl ra ore now nP nS x) (bx D (fun u => [(o, eMM r (.ref ma) fr (upd (upd (upd (upd I 0 u.2.1) 1 u.2.2.1) 2 u.2.2.2.1) 29 u.2.2.2.2.1) L), (ma, eMI mr MI), ((mr 11), aI k 6 mpr), ((mr 12), aI k 5 mbr), ((mr 13), aI k 5 mnx), ((mr 14), aI k 4 mhd), ((mr 15), aI k 20 mtn), ((r 16), aI k 37 sv), ((r 17), aI k 37 u.2.2.2.2.2.1), ((r 30), aI k 5 u.2.2.2.2.2.2.1), ((r 31), aI k 5 u.2.2.2.2.2.2.2)]) A) A
abbrev rm_X8_plan : Room := { frames := 5, cells := 0, slots := 0, locals := 200 }
theorem xo_X8_plan : xok yX8_plan 1 := by unfold xok; decide +kernel
set_option maxHeartbeats 8000000 in
theorem m_X8_plan (l : Launch) (D : va_G) (k : KK) (sz : Nat) (o : Nat) (r : Nat → Nat) (fr : Value) (I : Nat → Int32) (L : Nat → Int64) (ma : Nat) (mr : Nat → Nat) (MI : Nat → Int32) (mpr : Nat → Int32) (mbr : Nat → Int32) (mnx : Nat → Int32) (mhd : Nat → Int32) (mtn : Nat → Int32) (sv : Nat → Int32) (tw : Nat → Int32) (pl : Nat → Int32) (ra : Nat → Int32) (ore : Nat) (now : Nat) (nP : Nat) (nS : Nat) (x : Int32) (hmS : MI 8 = nI nS) (hS2 : 2 ≤ nS) (hS5 : nS ≤ 5) (hpr : MI 7 = nI nP) (hP1 : 1 ≤ nP) (hP6 : nP ≤ 6) (hroom : ¬ MI 0 = 0) (hlife : ¬ MI 4 = 0) (hhd : ∀ j, j < 4 → ¬ 9 + mhd j = 0) (hs36 : sv 36 = nI ore) (hore : ore < 4) (hs27 : sv 27 = nI now) (hnb : now ≤ 240) : Met l yX8_plan (ws_ yX8_plan cX8_plan 6 (some .int)) rm_X8_plan (pcx D k [.ref o, .int x] sz [(o, eMM r (.ref ma) fr I L), (ma, eMI mr MI), ((mr 11), aI k 6 mpr), ((mr 12), aI k 5 mbr), ((mr 13), aI k 5 mnx), ((mr 14), aI k 4 mhd), ((mr 15), aI k 20 mtn), ((r 16), aI k 37 sv), ((r 17), aI k 37 tw), ((r 30), aI k 5 pl), ((r 31), aI k 5 ra)] (fun _ => True)) (q_X8_plan D k o r fr I L ma mr MI mpr mbr mnx mhd mtn sv tw pl ra ore now nP nS x (va_A [(o, eMM r (.ref ma) fr I L), (ma, eMI mr MI), ((mr 11), aI k 6 mpr), ((mr 12), aI k 5 mbr), ((mr 13), aI k 5 mnx), ((mr 14), aI k 4 mhd), ((mr 15), aI k 20 mtn), ((r 16), aI k 37 sv), ((r 17), aI k 37 tw), ((r 30), aI k 5 pl), ((r 31), aI k 5 ra)] sz)) 0 0 (va_A [(o, eMM r (.ref ma) fr I L), (ma, eMI mr MI), ((mr 11), aI k 6 mpr), ((mr 12), aI k 5 mbr), ((mr 13), aI k 5 mnx), ((mr 14), aI k 4 mhd), ((mr 15), aI k 20 mtn), ((r 16), aI k 37 sv), ((r 17), aI k 37 tw), ((r 30), aI k 5 pl), ((r 31), aI k 5 ra)] sz) := by
  refine Met.start (Qc := q_X8_plan D k o r fr I L ma mr MI mpr mbr mnx mhd mtn sv tw pl ra ore now nP nS x) (by decide) (Nat.le_of_ble_eq_true rfl) ?_
  intro p e s m below meth c A hx hb hr hlocks hml hown hin hts hg hP hD hA hAn hS hY hsz ls hl
  have hown : s.vm.findClass RX8 = some m.cls := hown
  have hl : lv_has ls 6 [(0, .ref o), (1, .int x)] := hl
  refine lv_aload_n hx hb dX8_plan_0 rfl (lv_at hl 0 rfl) ?_
  refine lv_iconst (v := 0) hx hb dX8_plan_1 ci_0 ?_
  refine va_put (D := D) (ci := 10) (v := .int 0) (C := RX8) (T := TX8) (N := 37) hx hb hts in_X8 tyX8 tyX8_ok nmX8 hown hg.1 hP hD hS 0 rfl rfl 0 (Nat.le_of_ble_eq_true rfl) (hts _ q1141) (fun _ h9 => h9) rfl ftX8_0 rfl rfl (Nat.le_of_ble_eq_true rfl) dX8_plan_2 (fun H locs hP hD hS => ?_)
  replace hP : va_P D vwCl [(o, eMM r (.ref ma) fr (upd I 0 0) L), (ma, eMI mr MI), ((mr 11), aI k 6 mpr), ((mr 12), aI k 5 mbr), ((mr 13), aI k 5 mnx), ((mr 14), aI k 4 mhd), ((mr 15), aI k 20 mtn), ((r 16), aI k 37 sv), ((r 17), aI k 37 tw), ((r 30), aI k 5 pl), ((r 31), aI k 5 ra)] H := hP
  replace hD : va_D A [(o, eMM r (.ref ma) fr (upd I 0 0) L), (ma, eMI mr MI), ((mr 11), aI k 6 mpr), ((mr 12), aI k 5 mbr), ((mr 13), aI k 5 mnx), ((mr 14), aI k 4 mhd), ((mr 15), aI k 20 mtn), ((r 16), aI k 37 sv), ((r 17), aI k 37 tw), ((r 30), aI k 5 pl), ((r 31), aI k 5 ra)] := hD
  refine lv_aload_n hx hb dX8_plan_5 rfl (lv_at hl 0 rfl) ?_
  refine va_get (D := D) (ci := 10) (v := .ref ma) (C := RX8) (T := TX8) (N := 37) hx hb hts in_X8 hown hg.1 hP 0 rfl rfl 3 (Nat.le_of_ble_eq_true rfl) (hts _ q1144) (fun _ h9 => h9) rfl dX8_plan_6 ?_
  refine lv_ifnonnull (tgt := 18) hx hb dX8_plan_9 (by decide) ?_
  refine lv_iload_n hx hb dX8_plan_18 rfl (lv_at hl 1 rfl) ?_
  refine lv_iconst (v := 1) hx hb dX8_plan_19 ci_1 ?_
  refine lv_iconst (v := 5) hx hb dX8_plan_20 ci_5 ?_
  refine xc_i (wc := []) (wr := [(o, eMM r (.ref ma) fr (upd I 0 0) L), (ma, eMI mr MI), ((mr 11), aI k 6 mpr), ((mr 12), aI k 5 mbr), ((mr 13), aI k 5 mnx), ((mr 14), aI k 4 mhd), ((mr 15), aI k 20 mtn), ((r 16), aI k 37 sv), ((r 17), aI k 37 tw), ((r 30), aI k 5 pl), ((r 31), aI k 5 ra)]) hP hD hS hA [] [0, 1, 2, 3, 4, 5, 6, 7, 8, 9, 10] rfl rfl rfl (by decide) (xrS ⟨hx, hb, hml, hown, hts⟩ hg (m_X8_in l D k _ x 1 5) hP hD [] rfl rfl trivial q1426 q1427 q93 q1428 xo_X8_in ⟨rfl, rfl⟩ ⟨Nat.le_of_ble_eq_true rfl, Nat.le_of_ble_eq_true rfl⟩ hl.1 (Nat.le_of_ble_eq_true rfl) dX8_plan_21 ⟨Nat.le_of_ble_eq_true rfl, Nat.le_of_ble_eq_true rfl⟩ rfl) (fun u1 r_ H locs hw hP hD hS hk => ?_)
  obtain ⟨rfl, eu1, bu1⟩ := hw
  replace hP : va_P D vwCl [(o, eMM r (.ref ma) fr (upd I 0 0) L), (ma, eMI mr MI), ((mr 11), aI k 6 mpr), ((mr 12), aI k 5 mbr), ((mr 13), aI k 5 mnx), ((mr 14), aI k 4 mhd), ((mr 15), aI k 20 mtn), ((r 16), aI k 37 sv), ((r 17), aI k 37 tw), ((r 30), aI k 5 pl), ((r 31), aI k 5 ra)] H := hP.sub [0, 1, 2, 3, 4, 5, 6, 7, 8, 9, 10] rfl
  replace hD : va_D A [(o, eMM r (.ref ma) fr (upd I 0 0) L), (ma, eMI mr MI), ((mr 11), aI k 6 mpr), ((mr 12), aI k 5 mbr), ((mr 13), aI k 5 mnx), ((mr 14), aI k 4 mhd), ((mr 15), aI k 20 mtn), ((r 16), aI k 37 sv), ((r 17), aI k 37 tw), ((r 30), aI k 5 pl), ((r 31), aI k 5 ra)] := hD.sub [0, 1, 2, 3, 4, 5, 6, 7, 8, 9, 10] (by decide) rfl
  refine lv_if_ne (tgt := 33) hx hb dX8_plan_24 (by decide) (fun c2 => ?_) (fun c2 => ?_)
  · obtain ⟨hn_x, hb_1, hb_5⟩ := m_in15 (fun h => c2 (eu1.trans h))
    obtain ⟨j3, ej3⟩ : ∃ z : Nat, z = 4 ^ x.toNatClampNeg := ⟨_, rfl⟩
    have hb_4 : j3 ≤ 1024 := by rw [ej3]; exact pow4 hb_5
    refine lv_iconst (v := (-1)) hx hb dX8_plan_33 ci_m1 ?_
    refine lv_istore_n (lv' := [(2, .int (-1)), (0, .ref o), (1, .int x)]) hx hb dX8_plan_34 rfl hl (Nat.le_of_ble_eq_true rfl) rfl (fun ls hl => ?_)
    refine lv_iconst (v := 0) hx hb dX8_plan_35 ci_0 ?_
    refine lv_istore_n (lv' := [(3, .int 0), (2, .int (-1)), (0, .ref o), (1, .int x)]) hx hb dX8_plan_36 rfl hl (Nat.le_of_ble_eq_true rfl) rfl (fun ls hl => ?_)
    refine lv_iconst (v := 0) hx hb dX8_plan_37 ci_0 ?_
    refine lv_istore (lv' := [(4, .int 0), (3, .int 0), (2, .int (-1)), (0, .ref o), (1, .int x)]) hx hb dX8_plan_38 hl (Nat.le_of_ble_eq_true rfl) rfl (fun ls hl => ?_)
    have loop4 : ∀ (n4 i4 : Nat) (X4 : (Int32) × (Int32) × (Nat → Int32) × (Nat → Int32)) (H : Heap) (locs : List Loc) (ls : Array Slot), i4 + n4 = j3 → X4 = itN (f_X8_plan_l40 MI mpr mbr mnx mhd mtn sv ore now nP nS x) i4 (0, (-1), tw, ra) → va_P D vwCl [(o, eMM r (.ref ma) fr (upd I 0 0) L), (ma, eMI mr MI), ((mr 11), aI k 6 mpr), ((mr 12), aI k 5 mbr), ((mr 13), aI k 5 mnx), ((mr 14), aI k 4 mhd), ((mr 15), aI k 20 mtn), ((r 16), aI k 37 sv), ((r 17), aI k 37 X4.2.2.1), ((r 30), aI k 5 pl), ((r 31), aI k 5 X4.2.2.2)] H → va_D A [(o, eMM r (.ref ma) fr (upd I 0 0) L), (ma, eMI mr MI), ((mr 11), aI k 6 mpr), ((mr 12), aI k 5 mbr), ((mr 13), aI k 5 mnx), ((mr 14), aI k 4 mhd), ((mr 15), aI k 20 mtn), ((r 16), aI k 37 sv), ((r 17), aI k 37 X4.2.2.1), ((r 30), aI k 5 pl), ((r 31), aI k 5 X4.2.2.2)] → va_S A s.heap H locs → lv_has ls 6 [(4, .int (nI i4)), (3, .int X4.1), (2, .int X4.2.1), (0, .ref o), (1, .int x)] → W p l e rm_X8_plan s m ([.ref o, .int x] : List Value).toArray below meth c H locs 0 0 (MQ below (q_X8_plan D k o r fr I L ma mr MI mpr mbr mnx mhd mtn sv tw pl ra ore now nP nS x A) ([.ref o, .int x] : List Value).toArray s 0 0 A) (F0 m 40 ls []) := by
      intro n4
      induction n4 with
      | zero =>
        intro i4 X4 H locs ls hn4 eX4 hP hD hS hl
        have hi4 : i4 = j3 := by omega
        rw [hi4] at eX4
        refine lv_iload hx hb dX8_plan_40 (lv_at hl 0 rfl) ?_
        refine lv_iconst (v := 1) hx hb dX8_plan_42 ci_1 ?_
        refine lv_iconst (v := 2) hx hb dX8_plan_43 ci_2 ?_
        refine lv_iload_n hx hb dX8_plan_44 rfl (lv_at hl 4 rfl) ?_
        refine lv_imul hx hb dX8_plan_45 ?_
        refine lv_ishl hx hb dX8_plan_46 ?_
        refine lv_icmp_ge (tgt := 106) hx hb dX8_plan_47 (by decide) (fun _ => ?_) (fun c => absurd (xle_t ((shl4 hn_x hb_5).trans (congrArg nI ej3.symm)) rfl (by omega) (by omega)) c)
        refine lv_iload_n hx hb dX8_plan_106 rfl (lv_at hl 2 rfl) ?_
        refine lv_iconst (v := (-1)) hx hb dX8_plan_107 ci_m1 ?_
        refine lv_icmp_ne (tgt := 118) hx hb dX8_plan_108 (by decide) (fun c41 => ?_) (fun c41 => ?_)
        · refine lv_aload_n hx hb dX8_plan_118 rfl (lv_at hl 3 rfl) ?_
          refine lv_iload_n hx hb dX8_plan_119 rfl (lv_at hl 4 rfl) ?_
          refine va_put (D := D) (ci := 10) (v := .int x) (C := RX8) (T := TX8) (N := 37) hx hb hts in_X8 tyX8 tyX8_ok nmX8 hown hg.1 hP hD hS 0 rfl rfl 29 (Nat.le_of_ble_eq_true rfl) (hts _ q1170) (fun _ h9 => h9) rfl ftX8_29 rfl rfl (Nat.le_of_ble_eq_true rfl) dX8_plan_120 (fun H locs hP hD hS => ?_)
          replace hP : va_P D vwCl [(o, eMM r (.ref ma) fr (upd (upd I 0 0) 29 x) L), (ma, eMI mr MI), ((mr 11), aI k 6 mpr), ((mr 12), aI k 5 mbr), ((mr 13), aI k 5 mnx), ((mr 14), aI k 4 mhd), ((mr 15), aI k 20 mtn), ((r 16), aI k 37 sv), ((r 17), aI k 37 X4.2.2.1), ((r 30), aI k 5 pl), ((r 31), aI k 5 X4.2.2.2)] H := hP
          replace hD : va_D A [(o, eMM r (.ref ma) fr (upd (upd I 0 0) 29 x) L), (ma, eMI mr MI), ((mr 11), aI k 6 mpr), ((mr 12), aI k 5 mbr), ((mr 13), aI k 5 mnx), ((mr 14), aI k 4 mhd), ((mr 15), aI k 20 mtn), ((r 16), aI k 37 sv), ((r 17), aI k 37 X4.2.2.1), ((r 30), aI k 5 pl), ((r 31), aI k 5 X4.2.2.2)] := hD
          refine lv_iconst (v := 0) hx hb dX8_plan_123 ci_0 ?_
          refine lv_istore (lv' := [(4, .int 0), (3, .int X4.1), (2, .int X4.2.1), (0, .ref o), (1, .int x)]) hx hb dX8_plan_124 hl (Nat.le_of_ble_eq_true rfl) rfl (fun ls hl => ?_)
          have loop42 : ∀ (n42 i42 : Nat) (X42 : (Nat → Int32)) (H : Heap) (locs : List Loc) (ls : Array Slot), i42 + n42 = x.toNatClampNeg → X42 = itN (f_X8_plan_l126 x X4) i42 pl → va_P D vwCl [(o, eMM r (.ref ma) fr (upd (upd I 0 0) 29 x) L), (ma, eMI mr MI), ((mr 11), aI k 6 mpr), ((mr 12), aI k 5 mbr), ((mr 13), aI k 5 mnx), ((mr 14), aI k 4 mhd), ((mr 15), aI k 20 mtn), ((r 16), aI k 37 sv), ((r 17), aI k 37 X4.2.2.1), ((r 30), aI k 5 X42), ((r 31), aI k 5 X4.2.2.2)] H → va_D A [(o, eMM r (.ref ma) fr (upd (upd I 0 0) 29 x) L), (ma, eMI mr MI), ((mr 11), aI k 6 mpr), ((mr 12), aI k 5 mbr), ((mr 13), aI k 5 mnx), ((mr 14), aI k 4 mhd), ((mr 15), aI k 20 mtn), ((r 16), aI k 37 sv), ((r 17), aI k 37 X4.2.2.1), ((r 30), aI k 5 X42), ((r 31), aI k 5 X4.2.2.2)] → va_S A s.heap H locs → lv_has ls 6 [(4, .int (nI i42)), (3, .int X4.1), (2, .int X4.2.1), (0, .ref o), (1, .int x)] → W p l e rm_X8_plan s m ([.ref o, .int x] : List Value).toArray below meth c H locs 0 0 (MQ below (q_X8_plan D k o r fr I L ma mr MI mpr mbr mnx mhd mtn sv tw pl ra ore now nP nS x A) ([.ref o, .int x] : List Value).toArray s 0 0 A) (F0 m 126 ls []) := by
            intro n42
            induction n42 with
            | zero =>
              intro i42 X42 H locs ls hn42 eX42 hP hD hS hl
              have hi42 : i42 = x.toNatClampNeg := by omega
              rw [hi42] at eX42
              refine lv_iload hx hb dX8_plan_126 (lv_at hl 0 rfl) ?_
              refine lv_iload_n hx hb dX8_plan_128 rfl (lv_at hl 4 rfl) ?_
              refine lv_icmp_ge (tgt := 157) hx hb dX8_plan_129 (by decide) (fun _ => ?_) (fun c => absurd (xle_t hn_x rfl (by omega) (by omega)) c)
              refine lv_aload_n hx hb dX8_plan_157 rfl (lv_at hl 3 rfl) ?_
              refine lv_iload_n hx hb dX8_plan_158 rfl (lv_at hl 2 rfl) ?_
              refine xc_i (wc := [(o, eMM r (.ref ma) fr (upd (upd I 0 0) 29 x) L)]) (wr := [(ma, eMI mr MI), ((mr 11), aI k 6 mpr), ((mr 12), aI k 5 mbr), ((mr 13), aI k 5 mnx), ((mr 14), aI k 4 mhd), ((mr 15), aI k 20 mtn), ((r 16), aI k 37 sv), ((r 17), aI k 37 X4.2.2.1), ((r 30), aI k 5 X42), ((r 31), aI k 5 X4.2.2.2)]) hP hD hS hA [0] [1, 2, 3, 4, 5, 6, 7, 8, 9, 10] rfl rfl rfl (by decide) (xrV ⟨hx, hb, hml, hown, hts⟩ hg (m_X8_done l D k _ o r (.ref ma) fr (upd (upd I 0 0) 29 x) L X4.2.1) hP hD [0] rfl rfl trivial (ci := 10) (q0 := 0) rfl rfl rfl q1482 q1484 qs60 q93 q1485 xo_X8_done ⟨rfl, rfl⟩ ⟨Nat.le_of_ble_eq_true rfl, Nat.le_of_ble_eq_true rfl⟩ hl.1 (Nat.le_of_ble_eq_true rfl) dX8_plan_159 ⟨Nat.le_of_ble_eq_true rfl, Nat.le_of_ble_eq_true rfl⟩ rfl) (fun r_ u49 H locs hw hP hD hS hk => ?_)
              obtain ⟨rfl, eu49⟩ := hw
              replace hP : va_P D vwCl [(o, eMM r (.ref ma) fr (upd (upd (upd (upd I 0 0) 29 x) 1 u49.2.1) 2 u49.2.2) L), (ma, eMI mr MI), ((mr 11), aI k 6 mpr), ((mr 12), aI k 5 mbr), ((mr 13), aI k 5 mnx), ((mr 14), aI k 4 mhd), ((mr 15), aI k 20 mtn), ((r 16), aI k 37 sv), ((r 17), aI k 37 X4.2.2.1), ((r 30), aI k 5 X42), ((r 31), aI k 5 X4.2.2.2)] H := hP.sub [10, 0, 1, 2, 3, 4, 5, 6, 7, 8, 9] rfl
              replace hD : va_D A [(o, eMM r (.ref ma) fr (upd (upd (upd (upd I 0 0) 29 x) 1 u49.2.1) 2 u49.2.2) L), (ma, eMI mr MI), ((mr 11), aI k 6 mpr), ((mr 12), aI k 5 mbr), ((mr 13), aI k 5 mnx), ((mr 14), aI k 4 mhd), ((mr 15), aI k 20 mtn), ((r 16), aI k 37 sv), ((r 17), aI k 37 X4.2.2.1), ((r 30), aI k 5 X42), ((r 31), aI k 5 X4.2.2.2)] := hD.sub [10, 0, 1, 2, 3, 4, 5, 6, 7, 8, 9] (by decide) rfl
              exact xret_i hx hb hr hlocks (Nat.le_of_ble_eq_true rfl) (Nat.le_of_ble_eq_true rfl) hS.2.2 dX8_plan_162 (fun t ht => ⟨⟨u49.1, (u49.1, 0, u49.2.1, u49.2.2, x, X4.2.2.1, X42, X4.2.2.2), rfl, ⟨rfl, (by subst eu49; subst eX42; subst eX4; subst ej3; subst eu1; exact Eq.symm (Eq.trans (if_neg c2) (Eq.trans (if_neg c41) (rfl))))⟩, by rw [ht]; exact hP, hD⟩, hS.F ht⟩)
            | succ n42 ih42 =>
              intro i42 X42 H locs ls hn42 eX42 hP hD hS hl
              have hi42 : i42 < x.toNatClampNeg := by omega
              refine lv_iload hx hb dX8_plan_126 (lv_at hl 0 rfl) ?_
              refine lv_iload_n hx hb dX8_plan_128 rfl (lv_at hl 4 rfl) ?_
              refine lv_icmp_ge (tgt := 157) hx hb dX8_plan_129 (by decide) (fun c => absurd c (xle_f hn_x rfl (by omega) (by omega))) (fun _ => ?_)
              refine lv_aload_n hx hb dX8_plan_132 rfl (lv_at hl 3 rfl) ?_
              refine va_get (D := D) (ci := 10) (v := .ref (r 30)) (C := RX8) (T := TX8) (N := 37) hx hb hts in_X8 hown hg.1 hP 0 rfl rfl 30 (Nat.le_of_ble_eq_true rfl) (hts _ q1171) (fun _ h9 => h9) rfl dX8_plan_133 ?_
              refine lv_iload hx hb dX8_plan_136 (lv_at hl 0 rfl) ?_
              refine lv_iload_n hx hb dX8_plan_138 rfl (lv_at hl 1 rfl) ?_
              refine lv_iconst (v := 2) hx hb dX8_plan_139 ci_2 ?_
              refine lv_iload_n hx hb dX8_plan_140 rfl (lv_at hl 4 rfl) ?_
              refine lv_iconst (v := 1) hx hb dX8_plan_141 ci_1 ?_
              refine lv_isub hx hb dX8_plan_142 ?_
              refine lv_iload hx hb dX8_plan_143 (lv_at hl 0 rfl) ?_
              refine lv_isub hx hb dX8_plan_145 ?_
              refine lv_imul hx hb dX8_plan_146 ?_
              refine lv_ishr hx hb dX8_plan_147 ?_
              refine lv_iconst (v := 3) hx hb dX8_plan_148 ci_3 ?_
              refine lv_iand hx hb dX8_plan_149 ?_
              refine lv_topi (fun x50 ex50 => ?_)
              refine xa_iast hx hb hg hP hD hS 9 rfl rfl (by omega) (by omega) dX8_plan_150 (fun f51 H locs ef51 hP hD hS => ?_)
              replace hP : va_P D vwCl [(o, eMM r (.ref ma) fr (upd (upd I 0 0) 29 x) L), (ma, eMI mr MI), ((mr 11), aI k 6 mpr), ((mr 12), aI k 5 mbr), ((mr 13), aI k 5 mnx), ((mr 14), aI k 4 mhd), ((mr 15), aI k 20 mtn), ((r 16), aI k 37 sv), ((r 17), aI k 37 X4.2.2.1), ((r 30), aI k 5 f51), ((r 31), aI k 5 X4.2.2.2)] H := hP
              replace hD : va_D A [(o, eMM r (.ref ma) fr (upd (upd I 0 0) 29 x) L), (ma, eMI mr MI), ((mr 11), aI k 6 mpr), ((mr 12), aI k 5 mbr), ((mr 13), aI k 5 mnx), ((mr 14), aI k 4 mhd), ((mr 15), aI k 20 mtn), ((r 16), aI k 37 sv), ((r 17), aI k 37 X4.2.2.1), ((r 30), aI k 5 f51), ((r 31), aI k 5 X4.2.2.2)] := hD
              refine lv_iinc (v := (nI (i42 + 1))) (lv' := [(4, .int (nI (i42 + 1))), (3, .int X4.1), (2, .int X4.2.1), (0, .ref o), (1, .int x)]) hx hb dX8_plan_151 hl (k := 0) rfl (xinc1 _) (Nat.le_of_ble_eq_true rfl) rfl (fun ls hl => ?_)
              refine lv_goto (tgt := 126) hx hb dX8_plan_154 (by decide) ?_
              exact ih42 (i42 + 1) f51 _ _ _ (by omega) (Eq.trans (by subst ef51; subst ex50; exact rfl) (congrArg (f_X8_plan_l126 x X4 i42) eX42)) hP hD hS (lv_sub hl [0, 1, 2, 3, 4] rfl)
          exact loop42 x.toNatClampNeg 0 pl _ _ _ (by omega) rfl hP hD hS (by have h := (lv_sub hl [0, 1, 2, 3, 4] rfl); exact h)
        · refine lv_aload_n hx hb dX8_plan_111 rfl (lv_at hl 3 rfl) ?_
          refine lv_bipush (v := 6) hx hb dX8_plan_112 cb_6 ?_
          refine xc_i (wc := [(o, eMM r (.ref ma) fr (upd I 0 0) L)]) (wr := [(ma, eMI mr MI), ((mr 11), aI k 6 mpr), ((mr 12), aI k 5 mbr), ((mr 13), aI k 5 mnx), ((mr 14), aI k 4 mhd), ((mr 15), aI k 20 mtn), ((r 16), aI k 37 sv), ((r 17), aI k 37 X4.2.2.1), ((r 30), aI k 5 pl), ((r 31), aI k 5 X4.2.2.2)]) hP hD hS hA [0] [1, 2, 3, 4, 5, 6, 7, 8, 9, 10] rfl rfl rfl (by decide) (xrV ⟨hx, hb, hml, hown, hts⟩ hg (m_X8_refused l D k _ o r (.ref ma) fr (upd I 0 0) L 6) hP hD [0] rfl rfl trivial (ci := 10) (q0 := 0) rfl rfl rfl q1265 q1267 qs39 q93 q1268 xo_X8_refused ⟨rfl, rfl⟩ ⟨Nat.le_of_ble_eq_true rfl, Nat.le_of_ble_eq_true rfl⟩ hl.1 (Nat.le_of_ble_eq_true rfl) dX8_plan_114 ⟨Nat.le_of_ble_eq_true rfl, Nat.le_of_ble_eq_true rfl⟩ rfl) (fun r_ u52 H locs hw hP hD hS hk => ?_)
          obtain ⟨rfl, eu52⟩ := hw
          replace hP : va_P D vwCl [(o, eMM r (.ref ma) fr (upd (upd (upd I 0 0) 1 u52.2.1) 2 u52.2.2) L), (ma, eMI mr MI), ((mr 11), aI k 6 mpr), ((mr 12), aI k 5 mbr), ((mr 13), aI k 5 mnx), ((mr 14), aI k 4 mhd), ((mr 15), aI k 20 mtn), ((r 16), aI k 37 sv), ((r 17), aI k 37 X4.2.2.1), ((r 30), aI k 5 pl), ((r 31), aI k 5 X4.2.2.2)] H := hP.sub [10, 0, 1, 2, 3, 4, 5, 6, 7, 8, 9] rfl
          replace hD : va_D A [(o, eMM r (.ref ma) fr (upd (upd (upd I 0 0) 1 u52.2.1) 2 u52.2.2) L), (ma, eMI mr MI), ((mr 11), aI k 6 mpr), ((mr 12), aI k 5 mbr), ((mr 13), aI k 5 mnx), ((mr 14), aI k 4 mhd), ((mr 15), aI k 20 mtn), ((r 16), aI k 37 sv), ((r 17), aI k 37 X4.2.2.1), ((r 30), aI k 5 pl), ((r 31), aI k 5 X4.2.2.2)] := hD.sub [10, 0, 1, 2, 3, 4, 5, 6, 7, 8, 9] (by decide) rfl
          exact xret_i hx hb hr hlocks (Nat.le_of_ble_eq_true rfl) (Nat.le_of_ble_eq_true rfl) hS.2.2 dX8_plan_117 (fun t ht => ⟨⟨u52.1, (u52.1, 0, u52.2.1, u52.2.2, (I 29), X4.2.2.1, pl, X4.2.2.2), rfl, ⟨rfl, (by subst eu52; subst eX4; subst ej3; subst eu1; exact Eq.symm (Eq.trans (if_neg c2) (Eq.trans (if_pos c41) (rfl))))⟩, by rw [ht]; exact hP, hD⟩, hS.F ht⟩)
      | succ n4 ih4 =>
        intro i4 X4 H locs ls hn4 eX4 hP hD hS hl
        have hi4 : i4 < j3 := by omega
        refine lv_iload hx hb dX8_plan_40 (lv_at hl 0 rfl) ?_
        refine lv_iconst (v := 1) hx hb dX8_plan_42 ci_1 ?_
        refine lv_iconst (v := 2) hx hb dX8_plan_43 ci_2 ?_
        refine lv_iload_n hx hb dX8_plan_44 rfl (lv_at hl 4 rfl) ?_
        refine lv_imul hx hb dX8_plan_45 ?_
        refine lv_ishl hx hb dX8_plan_46 ?_
        refine lv_icmp_ge (tgt := 106) hx hb dX8_plan_47 (by decide) (fun c => absurd c (xle_f ((shl4 hn_x hb_5).trans (congrArg nI ej3.symm)) rfl (by omega) (by omega))) (fun _ => ?_)
        refine lv_aload_n hx hb dX8_plan_50 rfl (lv_at hl 3 rfl) ?_
        refine lv_iload_n hx hb dX8_plan_51 rfl (lv_at hl 4 rfl) ?_
        refine lv_iload hx hb dX8_plan_52 (lv_at hl 0 rfl) ?_
        refine xc_i (wc := [(o, eMM r (.ref ma) fr (upd I 0 0) L), (ma, eMI mr MI), ((mr 11), aI k 6 mpr), ((mr 12), aI k 5 mbr), ((mr 13), aI k 5 mnx), ((mr 14), aI k 4 mhd), ((mr 15), aI k 20 mtn), ((r 16), aI k 37 sv), ((r 17), aI k 37 X4.2.2.1), ((r 31), aI k 5 X4.2.2.2)]) (wr := [((r 30), aI k 5 pl)]) hP hD hS hA [0, 1, 2, 3, 4, 5, 6, 7, 8, 10] [9] rfl rfl rfl (by decide) (xrV ⟨hx, hb, hml, hown, hts⟩ hg (m_X8_isWell l D k _ o r fr (upd I 0 0) L ma mr MI mpr mbr mnx mhd mtn sv X4.2.2.1 X4.2.2.2 ore now nP nS x (nI i4) x.toNatClampNeg hmS hS2 hS5 hpr hP1 hP6 hroom hlife hhd hs36 hore hs27 hnb hn_x hb_5) hP hD [0, 1, 2, 3, 4, 5, 6, 7, 8, 10] rfl rfl trivial (ci := 10) (q0 := 0) rfl rfl rfl q1624 q1626 qs77 q93 q1627 xo_X8_isWell ⟨rfl, rfl⟩ ⟨Nat.le_of_ble_eq_true rfl, Nat.le_of_ble_eq_true rfl⟩ hl.1 (Nat.le_of_ble_eq_true rfl) dX8_plan_54 ⟨Nat.le_of_ble_eq_true rfl, Nat.le_of_ble_eq_true rfl⟩ rfl) (fun r_ u53 H locs hw hP hD hS hk => ?_)
        obtain ⟨rfl, eu53, bu53⟩ := hw
        replace hP : va_P D vwCl [(o, eMM r (.ref ma) fr (upd I 0 0) L), (ma, eMI mr MI), ((mr 11), aI k 6 mpr), ((mr 12), aI k 5 mbr), ((mr 13), aI k 5 mnx), ((mr 14), aI k 4 mhd), ((mr 15), aI k 20 mtn), ((r 16), aI k 37 sv), ((r 17), aI k 37 u53.2.1), ((r 30), aI k 5 pl), ((r 31), aI k 5 u53.2.2)] H := hP.sub [1, 2, 3, 4, 5, 6, 7, 8, 9, 0, 10] rfl
        replace hD : va_D A [(o, eMM r (.ref ma) fr (upd I 0 0) L), (ma, eMI mr MI), ((mr 11), aI k 6 mpr), ((mr 12), aI k 5 mbr), ((mr 13), aI k 5 mnx), ((mr 14), aI k 4 mhd), ((mr 15), aI k 20 mtn), ((r 16), aI k 37 sv), ((r 17), aI k 37 u53.2.1), ((r 30), aI k 5 pl), ((r 31), aI k 5 u53.2.2)] := hD.sub [1, 2, 3, 4, 5, 6, 7, 8, 9, 0, 10] (by decide) rfl
        have Jn4 : ∀ (v62 : (Int32) × (Int32)) (H : Heap) (locs : List Loc) (ls : Array Slot), v62 = f_X8_plan_j4 sv X4 i4 u53 → va_P D vwCl [(o, eMM r (.ref ma) fr (upd I 0 0) L), (ma, eMI mr MI), ((mr 11), aI k 6 mpr), ((mr 12), aI k 5 mbr), ((mr 13), aI k 5 mnx), ((mr 14), aI k 4 mhd), ((mr 15), aI k 20 mtn), ((r 16), aI k 37 sv), ((r 17), aI k 37 u53.2.1), ((r 30), aI k 5 pl), ((r 31), aI k 5 u53.2.2)] H → va_D A [(o, eMM r (.ref ma) fr (upd I 0 0) L), (ma, eMI mr MI), ((mr 11), aI k 6 mpr), ((mr 12), aI k 5 mbr), ((mr 13), aI k 5 mnx), ((mr 14), aI k 4 mhd), ((mr 15), aI k 20 mtn), ((r 16), aI k 37 sv), ((r 17), aI k 37 u53.2.1), ((r 30), aI k 5 pl), ((r 31), aI k 5 u53.2.2)] → va_S A s.heap H locs → lv_has ls 6 [(3, .int v62.1), (2, .int v62.2), (4, .int (nI i4)), (0, .ref o), (1, .int x)] → W p l e rm_X8_plan s m ([.ref o, .int x] : List Value).toArray below meth c H locs 0 0 (MQ below (q_X8_plan D k o r fr I L ma mr MI mpr mbr mnx mhd mtn sv tw pl ra ore now nP nS x A) ([.ref o, .int x] : List Value).toArray s 0 0 A) (F0 m 100 ls []) := by
          intro v62 H locs ls ev62 hP hD hS hl
          refine lv_iinc (v := (nI (i4 + 1))) (lv' := [(4, .int (nI (i4 + 1))), (3, .int v62.1), (2, .int v62.2), (0, .ref o), (1, .int x)]) hx hb dX8_plan_100 hl (k := 2) rfl (xinc1 _) (Nat.le_of_ble_eq_true rfl) rfl (fun ls hl => ?_)
          refine lv_goto (tgt := 40) hx hb dX8_plan_103 (by decide) ?_
          exact ih4 (i4 + 1) (v62.1, v62.2, u53.2.1, u53.2.2) _ _ _ (by omega) (Eq.trans (by subst ev62; subst eu53; exact rfl) (congrArg (f_X8_plan_l40 MI mpr mbr mnx mhd mtn sv ore now nP nS x i4) eX4)) hP hD hS (lv_sub hl [0, 1, 2, 3, 4] rfl)
        refine lv_if_ne (tgt := 63) hx hb dX8_plan_57 (by decide) (fun c63 => ?_) (fun c63 => ?_)
        · refine lv_aload_n hx hb dX8_plan_63 rfl (lv_at hl 3 rfl) ?_
          refine va_get (D := D) (ci := 10) (v := .ref (r 17)) (C := RX8) (T := TX8) (N := 37) hx hb hts in_X8 hown hg.1 hP 0 rfl rfl 17 (Nat.le_of_ble_eq_true rfl) (hts _ q1158) (fun _ h9 => h9) rfl dX8_plan_64 ?_
          refine lv_bipush (v := 32) hx hb dX8_plan_67 cb_32 ?_
          refine xa_iald hx hb hg hP 8 rfl xl_32 (by first | omega | exact Nat.lt_of_lt_of_le (Nat.mod_lt _ (by omega)) (by omega)) (by omega) dX8_plan_69 ?_
          refine lv_aload_n hx hb dX8_plan_70 rfl (lv_at hl 3 rfl) ?_
          refine va_get (D := D) (ci := 10) (v := .ref (r 16)) (C := RX8) (T := TX8) (N := 37) hx hb hts in_X8 hown hg.1 hP 0 rfl rfl 16 (Nat.le_of_ble_eq_true rfl) (hts _ q1157) (fun _ h9 => h9) rfl dX8_plan_71 ?_
          refine lv_bipush (v := 32) hx hb dX8_plan_74 cb_32 ?_
          refine xa_iald hx hb hg hP 7 rfl xl_32 (by first | omega | exact Nat.lt_of_lt_of_le (Nat.mod_lt _ (by omega)) (by omega)) (by omega) dX8_plan_76 ?_
          refine lv_isub hx hb dX8_plan_77 ?_
          refine lv_topi (fun x64 ex64 => ?_)
          refine lv_istore (lv' := [(5, .int x64), (4, .int (nI i4)), (3, .int X4.1), (2, .int X4.2.1), (0, .ref o), (1, .int x)]) hx hb dX8_plan_78 hl (Nat.le_of_ble_eq_true rfl) rfl (fun ls hl => ?_)
          refine lv_iload_n hx hb dX8_plan_80 rfl (lv_at hl 3 rfl) ?_
          refine lv_iconst (v := (-1)) hx hb dX8_plan_81 ci_m1 ?_
          refine lv_icmp_eq (tgt := 94) hx hb dX8_plan_82 (by decide) (fun c65 => ?_) (fun c65 => ?_)
          · refine lv_iload hx hb dX8_plan_94 (lv_at hl 0 rfl) ?_
            refine lv_istore_n (lv' := [(2, .int x64), (5, .int x64), (4, .int (nI i4)), (3, .int X4.1), (0, .ref o), (1, .int x)]) hx hb dX8_plan_96 rfl hl (Nat.le_of_ble_eq_true rfl) rfl (fun ls hl => ?_)
            refine lv_iload hx hb dX8_plan_97 (lv_at hl 2 rfl) ?_
            refine lv_istore_n (lv' := [(3, .int (nI i4)), (2, .int x64), (5, .int x64), (4, .int (nI i4)), (0, .ref o), (1, .int x)]) hx hb dX8_plan_99 rfl hl (Nat.le_of_ble_eq_true rfl) rfl (fun ls hl => ?_)
            exact Jn4 (nI i4, x64) _ _ _ (by subst ex64; exact Eq.symm (Eq.trans (if_neg c63) (Eq.trans (if_pos c65) (rfl)))) hP hD hS (lv_sub hl [0, 1, 3, 4, 5] rfl)
          · refine lv_iload hx hb dX8_plan_85 (lv_at hl 0 rfl) ?_
            refine lv_iload_n hx hb dX8_plan_87 rfl (lv_at hl 3 rfl) ?_
            refine lv_icmp_lt (tgt := 94) hx hb dX8_plan_88 (by decide) (fun c66 => ?_) (fun c66 => ?_)
            · refine lv_iload hx hb dX8_plan_94 (lv_at hl 0 rfl) ?_
              refine lv_istore_n (lv' := [(2, .int x64), (5, .int x64), (4, .int (nI i4)), (3, .int X4.1), (0, .ref o), (1, .int x)]) hx hb dX8_plan_96 rfl hl (Nat.le_of_ble_eq_true rfl) rfl (fun ls hl => ?_)
              refine lv_iload hx hb dX8_plan_97 (lv_at hl 2 rfl) ?_
              refine lv_istore_n (lv' := [(3, .int (nI i4)), (2, .int x64), (5, .int x64), (4, .int (nI i4)), (0, .ref o), (1, .int x)]) hx hb dX8_plan_99 rfl hl (Nat.le_of_ble_eq_true rfl) rfl (fun ls hl => ?_)
              exact Jn4 (nI i4, x64) _ _ _ (by subst ex64; exact Eq.symm (Eq.trans (if_neg c63) (Eq.trans (if_neg c65) (Eq.trans (if_pos c66) (rfl))))) hP hD hS (lv_sub hl [0, 1, 3, 4, 5] rfl)
            · refine lv_goto (tgt := 100) hx hb dX8_plan_91 (by decide) ?_
              exact Jn4 (X4.1, X4.2.1) _ _ _ (by subst ex64; exact Eq.symm (Eq.trans (if_neg c63) (Eq.trans (if_neg c65) (Eq.trans (if_neg c66) (rfl))))) hP hD hS (lv_sub hl [2, 3, 1, 4, 5] rfl)
        · refine lv_goto (tgt := 100) hx hb dX8_plan_60 (by decide) ?_
          exact Jn4 (X4.1, X4.2.1) _ _ _ (by exact Eq.symm (Eq.trans (if_pos c63) (rfl))) hP hD hS (lv_sub hl [1, 2, 0, 3, 4] rfl)
    exact loop4 j3 0 (0, (-1), tw, ra) _ _ _ (by omega) rfl hP hD hS (by have h := (lv_sub hl [0, 1, 2, 3, 4] rfl); exact h)
  · refine lv_aload_n hx hb dX8_plan_27 rfl (lv_at hl 0 rfl) ?_
    refine lv_iconst (v := 2) hx hb dX8_plan_28 ci_2 ?_
    refine xc_i (wc := [(o, eMM r (.ref ma) fr (upd I 0 0) L)]) (wr := [(ma, eMI mr MI), ((mr 11), aI k 6 mpr), ((mr 12), aI k 5 mbr), ((mr 13), aI k 5 mnx), ((mr 14), aI k 4 mhd), ((mr 15), aI k 20 mtn), ((r 16), aI k 37 sv), ((r 17), aI k 37 tw), ((r 30), aI k 5 pl), ((r 31), aI k 5 ra)]) hP hD hS hA [0] [1, 2, 3, 4, 5, 6, 7, 8, 9, 10] rfl rfl rfl (by decide) (xrV ⟨hx, hb, hml, hown, hts⟩ hg (m_X8_refused l D k _ o r (.ref ma) fr (upd I 0 0) L 2) hP hD [0] rfl rfl trivial (ci := 10) (q0 := 0) rfl rfl rfl q1265 q1267 qs39 q93 q1268 xo_X8_refused ⟨rfl, rfl⟩ ⟨Nat.le_of_ble_eq_true rfl, Nat.le_of_ble_eq_true rfl⟩ hl.1 (Nat.le_of_ble_eq_true rfl) dX8_plan_29 ⟨Nat.le_of_ble_eq_true rfl, Nat.le_of_ble_eq_true rfl⟩ rfl) (fun r_ u67 H locs hw hP hD hS hk => ?_)
    obtain ⟨rfl, eu67⟩ := hw
    replace hP : va_P D vwCl [(o, eMM r (.ref ma) fr (upd (upd (upd I 0 0) 1 u67.2.1) 2 u67.2.2) L), (ma, eMI mr MI), ((mr 11), aI k 6 mpr), ((mr 12), aI k 5 mbr), ((mr 13), aI k 5 mnx), ((mr 14), aI k 4 mhd), ((mr 15), aI k 20 mtn), ((r 16), aI k 37 sv), ((r 17), aI k 37 tw), ((r 30), aI k 5 pl), ((r 31), aI k 5 ra)] H := hP.sub [10, 0, 1, 2, 3, 4, 5, 6, 7, 8, 9] rfl
    replace hD : va_D A [(o, eMM r (.ref ma) fr (upd (upd (upd I 0 0) 1 u67.2.1) 2 u67.2.2) L), (ma, eMI mr MI), ((mr 11), aI k 6 mpr), ((mr 12), aI k 5 mbr), ((mr 13), aI k 5 mnx), ((mr 14), aI k 4 mhd), ((mr 15), aI k 20 mtn), ((r 16), aI k 37 sv), ((r 17), aI k 37 tw), ((r 30), aI k 5 pl), ((r 31), aI k 5 ra)] := hD.sub [10, 0, 1, 2, 3, 4, 5, 6, 7, 8, 9] (by decide) rfl
    exact xret_i hx hb hr hlocks (Nat.le_of_ble_eq_true rfl) (Nat.le_of_ble_eq_true rfl) hS.2.2 dX8_plan_32 (fun t ht => ⟨⟨u67.1, (u67.1, 0, u67.2.1, u67.2.2, (I 29), tw, pl, ra), rfl, ⟨rfl, (by subst eu67; subst eu1; exact Eq.symm (Eq.trans (if_pos c2) (rfl)))⟩, by rw [ht]; exact hP, hD⟩, hS.F ht⟩)

def f_X8_planN  : Int32 × Int32 × Int32 × Int32 :=
  let u1 := f_X8_refused 1
  (u1.1, 0, u1.2.1, u1.2.2)
abbrev q_X8_planN (D : va_G) (k : KK) (o : Nat) (r : Nat → Nat) (fr : Value) (I : Nat → Int32) (L : Nat → Int64) (x : Int32) (A : Nat → Prop) : Array Value → State → Outcome → State → Prop := va_Qi (fun (r_ : Int32) (u : Int32 × Int32 × Int32 × Int32) => r_ = u.1 ∧ u = f_X8_planN) (bx D (fun u => [(o, eMM r .null fr (upd (upd (upd I 0 u.2.1) 1 u.2.2.1) 2 u.2.2.2) L)]) A) A
abbrev rm_X8_planN : Room := { frames := 5, cells := 0, slots := 0, locals := 200 }
set_option maxHeartbeats 8000000 in
theorem m_X8_planN (l : Launch) (D : va_G) (k : KK) (sz : Nat) (o : Nat) (r : Nat → Nat) (fr : Value) (I : Nat → Int32) (L : Nat → Int64) (x : Int32)  : Met l yX8_plan (ws_ yX8_plan cX8_plan 6 (some .int)) rm_X8_planN (pcx D k [.ref o, .int x] sz [(o, eMM r .null fr I L)] (fun _ => True)) (q_X8_planN D k o r fr I L x (va_A [(o, eMM r .null fr I L)] sz)) 0 0 (va_A [(o, eMM r .null fr I L)] sz) := by
  refine Met.start (Qc := q_X8_planN D k o r fr I L x) (by decide) (Nat.le_of_ble_eq_true rfl) ?_
  intro p e s m below meth c A hx hb hr hlocks hml hown hin hts hg hP hD hA hAn hS hY hsz ls hl
  have hown : s.vm.findClass RX8 = some m.cls := hown
  have hl : lv_has ls 6 [(0, .ref o), (1, .int x)] := hl
  refine lv_aload_n hx hb dX8_plan_0 rfl (lv_at hl 0 rfl) ?_
  refine lv_iconst (v := 0) hx hb dX8_plan_1 ci_0 ?_
  refine va_put (D := D) (ci := 10) (v := .int 0) (C := RX8) (T := TX8) (N := 37) hx hb hts in_X8 tyX8 tyX8_ok nmX8 hown hg.1 hP hD hS 0 rfl rfl 0 (Nat.le_of_ble_eq_true rfl) (hts _ q1141) (fun _ h9 => h9) rfl ftX8_0 rfl rfl (Nat.le_of_ble_eq_true rfl) dX8_plan_2 (fun H locs hP hD hS => ?_)
  replace hP : va_P D vwCl [(o, eMM r .null fr (upd I 0 0) L)] H := hP
  replace hD : va_D A [(o, eMM r .null fr (upd I 0 0) L)] := hD
  refine lv_aload_n hx hb dX8_plan_5 rfl (lv_at hl 0 rfl) ?_
  refine va_get (D := D) (ci := 10) (v := .null) (C := RX8) (T := TX8) (N := 37) hx hb hts in_X8 hown hg.1 hP 0 rfl rfl 3 (Nat.le_of_ble_eq_true rfl) (hts _ q1144) (fun _ h9 => h9) rfl dX8_plan_6 ?_
  refine lv_ifnonnullN hx hb dX8_plan_9 ?_
  refine lv_aload_n hx hb dX8_plan_12 rfl (lv_at hl 0 rfl) ?_
  refine lv_iconst (v := 1) hx hb dX8_plan_13 ci_1 ?_
  refine xc_i (wc := [(o, eMM r .null fr (upd I 0 0) L)]) (wr := []) hP hD hS hA [0] [] rfl rfl rfl (by decide) (xrV ⟨hx, hb, hml, hown, hts⟩ hg (m_X8_refused l D k _ o r .null fr (upd I 0 0) L 1) hP hD [0] rfl rfl trivial (ci := 10) (q0 := 0) rfl rfl rfl q1265 q1267 qs39 q93 q1268 xo_X8_refused ⟨rfl, rfl⟩ ⟨Nat.le_of_ble_eq_true rfl, Nat.le_of_ble_eq_true rfl⟩ hl.1 (Nat.le_of_ble_eq_true rfl) dX8_plan_14 ⟨Nat.le_of_ble_eq_true rfl, Nat.le_of_ble_eq_true rfl⟩ rfl) (fun r_ u1 H locs hw hP hD hS hk => ?_)
  obtain ⟨rfl, eu1⟩ := hw
  replace hP : va_P D vwCl [(o, eMM r .null fr (upd (upd (upd I 0 0) 1 u1.2.1) 2 u1.2.2) L)] H := hP.sub [0] rfl
  replace hD : va_D A [(o, eMM r .null fr (upd (upd (upd I 0 0) 1 u1.2.1) 2 u1.2.2) L)] := hD.sub [0] (by decide) rfl
  exact xret_i hx hb hr hlocks (Nat.le_of_ble_eq_true rfl) (Nat.le_of_ble_eq_true rfl) hS.2.2 dX8_plan_17 (fun t ht => ⟨⟨u1.1, (u1.1, 0, u1.2.1, u1.2.2), rfl, ⟨rfl, (by subst eu1; exact rfl)⟩, by rw [ht]; exact hP, hD⟩, hS.F ht⟩)
