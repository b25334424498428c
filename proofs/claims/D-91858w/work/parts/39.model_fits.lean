set_option maxRecDepth 100000
def f_X8_agrees_l43 (qH : Nat → Int32) (qW : Nat → Int32) (qV : Nat → Int32) (qO : Nat → Int32) (qn : Nat → Nat) (on : Int32) (ot : Int32) (i2 : Nat) (u63 : (Nat → Int32)) : Nat → Nat → (Unit) → (Int32 × (Nat → Int32)) ⊕ (Unit)
  | 0, i64, X64 => .inr X64
  | n64 + 1, i64, X64 => let u77 := f_X8_hourOf qH qW on ot i64
    if u77 = nI i2 then
      let u79 := f_X8_valueOf u63 (qW i64) (qn i64)
      let x80 := (u79 - (qV i64))
      if (qO i64) < x80 then
        .inl (0, u63)
      else
        if (-x80) ≤ (qO i64) then
          f_X8_agrees_l43 qH qW qV qO qn on ot i2 u63 n64 (i64 + 1) ()
        else
          .inl (0, u63)
    else
      f_X8_agrees_l43 qH qW qV qO qn on ot i2 u63 n64 (i64 + 1) ()
def f_X8_agrees_l23 (MI : Nat → Int32) (mpr : Nat → Int32) (mbr : Nat → Int32) (mnx : Nat → Int32) (mhd : Nat → Int32) (mtn : Nat → Int32) (pR : Nat → Int32) (pW : Nat → Int32) (pO : Nat → Int32) (qH : Nat → Int32) (qW : Nat → Int32) (qV : Nat → Int32) (qO : Nat → Int32) (po : Nat → Nat) (sn : Nat) (qn : Nat → Nat) (nP : Nat) (nS : Nat) (on : Int32) (ot : Int32) : Nat → Nat → ((Nat → Int32)) → (Int32 × (Nat → Int32)) ⊕ ((Nat → Int32))
  | 0, i2, X2 => .inr X2
  | n2 + 1, i2, X2 => let u63 := f_X8_byProgram MI mpr mbr mnx mhd mtn pR pW pO X2 i2 i2 po nP nS
    Sum.elim (fun r_ => .inl r_) (fun X64 =>
      f_X8_agrees_l23 MI mpr mbr mnx mhd mtn pR pW pO qH qW qV qO po sn qn nP nS on ot n2 (i2 + 1) u63) (f_X8_agrees_l43 qH qW qV qO qn on ot i2 u63 sn 0 ())
def f_X8_agrees (MI : Nat → Int32) (mpr : Nat → Int32) (mbr : Nat → Int32) (mnx : Nat → Int32) (mhd : Nat → Int32) (mtn : Nat → Int32) (tw : Nat → Int32) (pR : Nat → Int32) (pW : Nat → Int32) (pO : Nat → Int32) (qH : Nat → Int32) (qW : Nat → Int32) (qV : Nat → Int32) (qO : Nat → Int32) (po : Nat → Nat) (sn : Nat) (qn : Nat → Nat) (nP : Nat) (nS : Nat) (g : Int32) (on : Int32) (ot : Int32) : Int32 × (Nat → Int32) :=
  let u1 := f_X8_begins MI mtn tw (g / 25) ((g / 5) - (g / 5) / 5 * 5) (g - g / 5 * 5) nS
  Sum.elim (fun r_ => r_) (fun X2 =>
    (1, X2)) (f_X8_agrees_l23 MI mpr mbr mnx mhd mtn pR pW pO qH qW qV qO po sn qn nP nS on ot 12 0 u1)
abbrev q_X8_agrees (D : va_G) (k : KK) (o : Nat) (r : Nat → Nat) (fr : Value) (I : Nat → Int32) (L : Nat → Int64) (ma : Nat) (mr : Nat → Nat) (MI : Nat → Int32) (mpr : Nat → Int32) (mbr : Nat → Int32) (mnx : Nat → Int32) (mhd : Nat → Int32) (mtn : Nat → Int32) (tw : Nat → Int32) (pR : Nat → Int32) (pW : Nat → Int32) (pO : Nat → Int32) (qH : Nat → Int32) (qW : Nat → Int32) (qV : Nat → Int32) (qO : Nat → Int32) (po : Nat → Nat) (sn : Nat) (qn : Nat → Nat) (nP : Nat) (nS : Nat) (g : Int32) (on : Int32) (ot : Int32) (A : Nat → Prop) : Array Value → State → Outcome → State → Prop := va_Qi (fun (r_ : Int32) (u : Int32 × (Nat → Int32)) => r_ = u.1 ∧ u = f_X8_agrees MI mpr mbr mnx mhd mtn tw pR pW pO qH qW qV qO po sn qn nP nS g on ot ∧ (r_ = 0 ∨ r_ = 1)) (bx D (fun u => [(o, eMM r (.ref ma) fr I L), (ma, eMI mr MI), ((mr 11), aI k 6 mpr), ((mr 12), aI k 5 mbr), ((mr 13), aI k 5 mnx), ((mr 14), aI k 4 mhd), ((mr 15), aI k 20 mtn), ((r 17), aI k 37 u.2), ((r 20), aI k 12 pR), ((r 21), aI k 12 pW), ((r 22), aI k 12 pO), ((r 24), aI k 24 qH), ((r 25), aI k 24 qW), ((r 26), aI k 24 qV), ((r 27), aI k 24 qO)]) A) A
abbrev rm_X8_agrees : Room := { frames := 5, cells := 0, slots := 0, locals := 200 }
theorem xo_X8_agrees : xok yX8_agrees 3 := by unfold xok; decide +kernel
set_option maxHeartbeats 8000000 in
theorem m_X8_agrees (l : Launch) (D : va_G) (k : KK) (sz : Nat) (o : Nat) (r : Nat → Nat) (fr : Value) (I : Nat → Int32) (L : Nat → Int64) (ma : Nat) (mr : Nat → Nat) (MI : Nat → Int32) (mpr : Nat → Int32) (mbr : Nat → Int32) (mnx : Nat → Int32) (mhd : Nat → Int32) (mtn : Nat → Int32) (tw : Nat → Int32) (pR : Nat → Int32) (pW : Nat → Int32) (pO : Nat → Int32) (qH : Nat → Int32) (qW : Nat → Int32) (qV : Nat → Int32) (qO : Nat → Int32) (po : Nat → Nat) (sn : Nat) (qn : Nat → Nat) (nP : Nat) (nS : Nat) (g : Int32) (on : Int32) (ot : Int32) (hmS : MI 8 = nI nS) (hS2 : 2 ≤ nS) (hS5 : nS ≤ 5) (hpr : MI 7 = nI nP) (hP1 : 1 ≤ nP) (hP6 : nP ≤ 6) (hroom : ¬ MI 0 = 0) (hlife : ¬ MI 4 = 0) (hhd : ∀ j, j < 4 → ¬ 9 + mhd j = 0) (hpo : ∀ h, h < 12 → pO h = nI (po h) ∧ po h < 4) (hsn : I 23 = nI sn) (hs24 : sn ≤ 24) (hqw : ∀ j, j < sn → qW j = nI (qn j) ∧ qn j ≤ 6) : Met l yX8_agrees (ws_ yX8_agrees cX8_agrees 7 (some .boolean)) rm_X8_agrees (pcx D k [.ref o, .int g, .int on, .int ot] sz [(o, eMM r (.ref ma) fr I L), (ma, eMI mr MI), ((mr 11), aI k 6 mpr), ((mr 12), aI k 5 mbr), ((mr 13), aI k 5 mnx), ((mr 14), aI k 4 mhd), ((mr 15), aI k 20 mtn), ((r 17), aI k 37 tw), ((r 20), aI k 12 pR), ((r 21), aI k 12 pW), ((r 22), aI k 12 pO), ((r 24), aI k 24 qH), ((r 25), aI k 24 qW), ((r 26), aI k 24 qV), ((r 27), aI k 24 qO)] (fun _ => True)) (q_X8_agrees D k o r fr I L ma mr MI mpr mbr mnx mhd mtn tw pR pW pO qH qW qV qO po sn qn nP nS g on ot (va_A [(o, eMM r (.ref ma) fr I L), (ma, eMI mr MI), ((mr 11), aI k 6 mpr), ((mr 12), aI k 5 mbr), ((mr 13), aI k 5 mnx), ((mr 14), aI k 4 mhd), ((mr 15), aI k 20 mtn), ((r 17), aI k 37 tw), ((r 20), aI k 12 pR), ((r 21), aI k 12 pW), ((r 22), aI k 12 pO), ((r 24), aI k 24 qH), ((r 25), aI k 24 qW), ((r 26), aI k 24 qV), ((r 27), aI k 24 qO)] sz)) 0 0 (va_A [(o, eMM r (.ref ma) fr I L), (ma, eMI mr MI), ((mr 11), aI k 6 mpr), ((mr 12), aI k 5 mbr), ((mr 13), aI k 5 mnx), ((mr 14), aI k 4 mhd), ((mr 15), aI k 20 mtn), ((r 17), aI k 37 tw), ((r 20), aI k 12 pR), ((r 21), aI k 12 pW), ((r 22), aI k 12 pO), ((r 24), aI k 24 qH), ((r 25), aI k 24 qW), ((r 26), aI k 24 qV), ((r 27), aI k 24 qO)] sz) := by
  refine Met.start (Qc := q_X8_agrees D k o r fr I L ma mr MI mpr mbr mnx mhd mtn tw pR pW pO qH qW qV qO po sn qn nP nS g on ot) (by decide) (Nat.le_of_ble_eq_true rfl) ?_
  intro p e s m below meth c A hx hb hr hlocks hml hown hin hts hg hP hD hA hAn hS hY hsz ls hl
  have hown : s.vm.findClass RX8 = some m.cls := hown
  have hl : lv_has ls 7 [(0, .ref o), (1, .int g), (2, .int on), (3, .int ot)] := hl
  refine lv_aload_n hx hb dX8_agrees_0 rfl (lv_at hl 0 rfl) ?_
  refine lv_aload_n hx hb dX8_agrees_1 rfl (lv_at hl 0 rfl) ?_
  refine va_get (D := D) (ci := 10) (v := .ref (r 17)) (C := RX8) (T := TX8) (N := 37) hx hb hts in_X8 hown hg.1 hP 0 rfl rfl 17 (Nat.le_of_ble_eq_true rfl) (hts _ q1158) (fun _ h9 => h9) rfl dX8_agrees_2 ?_
  refine lv_iload_n hx hb dX8_agrees_5 rfl (lv_at hl 1 rfl) ?_
  refine lv_bipush (v := 25) hx hb dX8_agrees_6 cb_25 ?_
  refine lv_idiv hx hb dX8_agrees_8 (by decide) ?_
  refine lv_iload_n hx hb dX8_agrees_9 rfl (lv_at hl 1 rfl) ?_
  refine lv_iconst (v := 5) hx hb dX8_agrees_10 ci_5 ?_
  refine lv_idiv hx hb dX8_agrees_11 (by decide) ?_
  refine lv_iconst (v := 5) hx hb dX8_agrees_12 ci_5 ?_
  refine lv_irem hx hb dX8_agrees_13 (by decide) ?_
  refine lv_iload_n hx hb dX8_agrees_14 rfl (lv_at hl 1 rfl) ?_
  refine lv_iconst (v := 5) hx hb dX8_agrees_15 ci_5 ?_
  refine lv_irem hx hb dX8_agrees_16 (by decide) ?_
  refine xc_v (wc := [(o, eMM r (.ref ma) fr I L), (ma, eMI mr MI), ((mr 11), aI k 6 mpr), ((mr 12), aI k 5 mbr), ((mr 13), aI k 5 mnx), ((mr 14), aI k 4 mhd), ((mr 15), aI k 20 mtn), ((r 17), aI k 37 tw)]) (wr := [((r 20), aI k 12 pR), ((r 21), aI k 12 pW), ((r 22), aI k 12 pO), ((r 24), aI k 24 qH), ((r 25), aI k 24 qW), ((r 26), aI k 24 qV), ((r 27), aI k 24 qO)]) hP hD hS hA [0, 1, 2, 3, 4, 5, 6, 7] [8, 9, 10, 11, 12, 13, 14] rfl rfl rfl (by decide) (xrV ⟨hx, hb, hml, hown, hts⟩ hg (m_X8_begins l D k _ o r fr I L ma mr MI mpr mbr mnx mhd mtn (r 17) tw (g / 25) ((g / 5) - (g / 5) / 5 * 5) (g - g / 5 * 5) nS hmS hS2 hS5) hP hD [0, 1, 2, 3, 4, 5, 6, 7] rfl rfl trivial (ci := 10) (q0 := 0) rfl rfl rfl q1583 q1585 qs74 q93 q1586 xo_X8_begins ⟨rfl, rfl⟩ ⟨Nat.le_of_ble_eq_true rfl, Nat.le_of_ble_eq_true rfl⟩ hl.1 (Nat.le_of_ble_eq_true rfl) dX8_agrees_17 ⟨Nat.le_of_ble_eq_true rfl, Nat.le_of_ble_eq_true rfl⟩ rfl) (fun u1 H locs hw hP hD hS hk => ?_)
  have eu1 := hw
  replace hP : va_P D vwCl [(o, eMM r (.ref ma) fr I L), (ma, eMI mr MI), ((mr 11), aI k 6 mpr), ((mr 12), aI k 5 mbr), ((mr 13), aI k 5 mnx), ((mr 14), aI k 4 mhd), ((mr 15), aI k 20 mtn), ((r 17), aI k 37 u1), ((r 20), aI k 12 pR), ((r 21), aI k 12 pW), ((r 22), aI k 12 pO), ((r 24), aI k 24 qH), ((r 25), aI k 24 qW), ((r 26), aI k 24 qV), ((r 27), aI k 24 qO)] H := hP.sub [7, 8, 9, 10, 11, 12, 13, 14, 0, 1, 2, 3, 4, 5, 6] rfl
  replace hD : va_D A [(o, eMM r (.ref ma) fr I L), (ma, eMI mr MI), ((mr 11), aI k 6 mpr), ((mr 12), aI k 5 mbr), ((mr 13), aI k 5 mnx), ((mr 14), aI k 4 mhd), ((mr 15), aI k 20 mtn), ((r 17), aI k 37 u1), ((r 20), aI k 12 pR), ((r 21), aI k 12 pW), ((r 22), aI k 12 pO), ((r 24), aI k 24 qH), ((r 25), aI k 24 qW), ((r 26), aI k 24 qV), ((r 27), aI k 24 qO)] := hD.sub [7, 8, 9, 10, 11, 12, 13, 14, 0, 1, 2, 3, 4, 5, 6] (by decide) rfl
  refine lv_iconst (v := 0) hx hb dX8_agrees_20 ci_0 ?_
  refine lv_istore (lv' := [(4, .int 0), (0, .ref o), (1, .int g), (2, .int on), (3, .int ot)]) hx hb dX8_agrees_21 hl (Nat.le_of_ble_eq_true rfl) rfl (fun ls hl => ?_)
  have loop2 : ∀ (n2 i2 : Nat) (X2 : (Nat → Int32)) (H : Heap) (locs : List Loc) (ls : Array Slot), i2 + n2 = 12 → f_X8_agrees_l23 MI mpr mbr mnx mhd mtn pR pW pO qH qW qV qO po sn qn nP nS on ot n2 i2 X2 = f_X8_agrees_l23 MI mpr mbr mnx mhd mtn pR pW pO qH qW qV qO po sn qn nP nS on ot 12 0 u1 → X2 27 = nI i2 → va_P D vwCl [(o, eMM r (.ref ma) fr I L), (ma, eMI mr MI), ((mr 11), aI k 6 mpr), ((mr 12), aI k 5 mbr), ((mr 13), aI k 5 mnx), ((mr 14), aI k 4 mhd), ((mr 15), aI k 20 mtn), ((r 17), aI k 37 X2), ((r 20), aI k 12 pR), ((r 21), aI k 12 pW), ((r 22), aI k 12 pO), ((r 24), aI k 24 qH), ((r 25), aI k 24 qW), ((r 26), aI k 24 qV), ((r 27), aI k 24 qO)] H → va_D A [(o, eMM r (.ref ma) fr I L), (ma, eMI mr MI), ((mr 11), aI k 6 mpr), ((mr 12), aI k 5 mbr), ((mr 13), aI k 5 mnx), ((mr 14), aI k 4 mhd), ((mr 15), aI k 20 mtn), ((r 17), aI k 37 X2), ((r 20), aI k 12 pR), ((r 21), aI k 12 pW), ((r 22), aI k 12 pO), ((r 24), aI k 24 qH), ((r 25), aI k 24 qW), ((r 26), aI k 24 qV), ((r 27), aI k 24 qO)] → va_S A s.heap H locs → lv_has ls 7 [(4, .int (nI i2)), (0, .ref o), (1, .int g), (2, .int on), (3, .int ot)] → W p l e rm_X8_agrees s m ([.ref o, .int g, .int on, .int ot] : List Value).toArray below meth c H locs 0 0 (MQ below (q_X8_agrees D k o r fr I L ma mr MI mpr mbr mnx mhd mtn tw pR pW pO qH qW qV qO po sn qn nP nS g on ot A) ([.ref o, .int g, .int on, .int ot] : List Value).toArray s 0 0 A) (F0 m 23 ls []) := by
    intro n2
    induction n2 with
    | zero =>
      intro i2 X2 H locs ls hn2 eX2 hv2 hP hD hS hl
      have hi2 : i2 = 12 := by omega
      replace eX2 : f_X8_agrees_l23 MI mpr mbr mnx mhd mtn pR pW pO qH qW qV qO po sn qn nP nS on ot 12 0 u1 = Sum.inr X2 := eX2.symm
      refine lv_iload hx hb dX8_agrees_23 (lv_at hl 0 rfl) ?_
      refine lv_bipush (v := 12) hx hb dX8_agrees_25 cb_12 ?_
      refine lv_icmp_ge (tgt := 131) hx hb dX8_agrees_27 (by decide) (fun _ => ?_) (fun c => absurd (xle_t xl_12 rfl (by omega) (by omega)) c)
      refine lv_iconst (v := 1) hx hb dX8_agrees_131 ci_1 ?_
      exact xret_z hx hb hr hlocks (Nat.le_of_ble_eq_true rfl) (Nat.le_of_ble_eq_true rfl) hS.2.2 dX8_agrees_132 (Or.inr rfl) (fun t ht => ⟨⟨1, (1, X2), rfl, ⟨rfl, (by subst eu1; exact Eq.symm (Eq.trans (xm_r eX2) (rfl))), (Or.inr rfl)⟩, by rw [ht]; exact hP, hD⟩, hS.F ht⟩)
    | succ n2 ih2 =>
      intro i2 X2 H locs ls hn2 eX2 hv2 hP hD hS hl
      have hi2 : i2 < 12 := by omega
      refine lv_iload hx hb dX8_agrees_23 (lv_at hl 0 rfl) ?_
      refine lv_bipush (v := 12) hx hb dX8_agrees_25 cb_12 ?_
      refine lv_icmp_ge (tgt := 131) hx hb dX8_agrees_27 (by decide) (fun c => absurd c (xle_f xl_12 rfl (by omega) (by omega))) (fun _ => ?_)
      refine lv_aload_n hx hb dX8_agrees_30 rfl (lv_at hl 1 rfl) ?_
      refine lv_aload_n hx hb dX8_agrees_31 rfl (lv_at hl 1 rfl) ?_
      refine va_get (D := D) (ci := 10) (v := .ref (r 17)) (C := RX8) (T := TX8) (N := 37) hx hb hts in_X8 hown hg.1 hP 0 rfl rfl 17 (Nat.le_of_ble_eq_true rfl) (hts _ q1158) (fun _ h9 => h9) rfl dX8_agrees_32 ?_
      refine lv_iload hx hb dX8_agrees_35 (lv_at hl 0 rfl) ?_
      refine xc_v (wc := [(o, eMM r (.ref ma) fr I L), (ma, eMI mr MI), ((mr 11), aI k 6 mpr), ((mr 12), aI k 5 mbr), ((mr 13), aI k 5 mnx), ((mr 14), aI k 4 mhd), ((mr 15), aI k 20 mtn), ((r 20), aI k 12 pR), ((r 21), aI k 12 pW), ((r 22), aI k 12 pO), ((r 17), aI k 37 X2)]) (wr := [((r 24), aI k 24 qH), ((r 25), aI k 24 qW), ((r 26), aI k 24 qV), ((r 27), aI k 24 qO)]) hP hD hS hA [0, 1, 2, 3, 4, 5, 6, 8, 9, 10, 7] [11, 12, 13, 14] rfl rfl rfl (by decide) (xrV ⟨hx, hb, hml, hown, hts⟩ hg (m_X8_byProgram l D k _ o r fr I L ma mr MI mpr mbr mnx mhd mtn pR pW pO (r 17) X2 (nI i2) i2 i2 po nP nS hmS hS2 hS5 hpr hP1 hP6 hroom hlife hhd hpo rfl (by first | assumption | omega) hv2 (by first | assumption | omega)) hP hD [0, 1, 2, 3, 4, 5, 6, 8, 9, 10, 7] rfl rfl trivial (ci := 10) (q0 := 0) rfl rfl rfl q1587 q1589 qs75 q93 q1590 xo_X8_byProgram ⟨rfl, rfl⟩ ⟨Nat.le_of_ble_eq_true rfl, Nat.le_of_ble_eq_true rfl⟩ hl.1 (Nat.le_of_ble_eq_true rfl) dX8_agrees_37 ⟨Nat.le_of_ble_eq_true rfl, Nat.le_of_ble_eq_true rfl⟩ rfl) (fun u63 H locs hw hP hD hS hk => ?_)
      have eu63 := hw
      replace hP : va_P D vwCl [(o, eMM r (.ref ma) fr I L), (ma, eMI mr MI), ((mr 11), aI k 6 mpr), ((mr 12), aI k 5 mbr), ((mr 13), aI k 5 mnx), ((mr 14), aI k 4 mhd), ((mr 15), aI k 20 mtn), ((r 17), aI k 37 u63), ((r 20), aI k 12 pR), ((r 21), aI k 12 pW), ((r 22), aI k 12 pO), ((r 24), aI k 24 qH), ((r 25), aI k 24 qW), ((r 26), aI k 24 qV), ((r 27), aI k 24 qO)] H := hP.sub [4, 5, 6, 7, 8, 9, 10, 14, 11, 12, 13, 0, 1, 2, 3] rfl
      replace hD : va_D A [(o, eMM r (.ref ma) fr I L), (ma, eMI mr MI), ((mr 11), aI k 6 mpr), ((mr 12), aI k 5 mbr), ((mr 13), aI k 5 mnx), ((mr 14), aI k 4 mhd), ((mr 15), aI k 20 mtn), ((r 17), aI k 37 u63), ((r 20), aI k 12 pR), ((r 21), aI k 12 pW), ((r 22), aI k 12 pO), ((r 24), aI k 24 qH), ((r 25), aI k 24 qW), ((r 26), aI k 24 qV), ((r 27), aI k 24 qO)] := hD.sub [4, 5, 6, 7, 8, 9, 10, 14, 11, 12, 13, 0, 1, 2, 3] (by decide) rfl
      refine lv_iconst (v := 0) hx hb dX8_agrees_40 ci_0 ?_
      refine lv_istore (lv' := [(5, .int 0), (4, .int (nI i2)), (0, .ref o), (1, .int g), (2, .int on), (3, .int ot)]) hx hb dX8_agrees_41 hl (Nat.le_of_ble_eq_true rfl) rfl (fun ls hl => ?_)
      have loop64 : ∀ (n64 i64 : Nat) (X64 : Unit) (H : Heap) (locs : List Loc) (ls : Array Slot), i64 + n64 = sn → f_X8_agrees_l43 qH qW qV qO qn on ot i2 u63 n64 i64 X64 = f_X8_agrees_l43 qH qW qV qO qn on ot i2 u63 sn 0 () → va_P D vwCl [(o, eMM r (.ref ma) fr I L), (ma, eMI mr MI), ((mr 11), aI k 6 mpr), ((mr 12), aI k 5 mbr), ((mr 13), aI k 5 mnx), ((mr 14), aI k 4 mhd), ((mr 15), aI k 20 mtn), ((r 17), aI k 37 u63), ((r 20), aI k 12 pR), ((r 21), aI k 12 pW), ((r 22), aI k 12 pO), ((r 24), aI k 24 qH), ((r 25), aI k 24 qW), ((r 26), aI k 24 qV), ((r 27), aI k 24 qO)] H → va_D A [(o, eMM r (.ref ma) fr I L), (ma, eMI mr MI), ((mr 11), aI k 6 mpr), ((mr 12), aI k 5 mbr), ((mr 13), aI k 5 mnx), ((mr 14), aI k 4 mhd), ((mr 15), aI k 20 mtn), ((r 17), aI k 37 u63), ((r 20), aI k 12 pR), ((r 21), aI k 12 pW), ((r 22), aI k 12 pO), ((r 24), aI k 24 qH), ((r 25), aI k 24 qW), ((r 26), aI k 24 qV), ((r 27), aI k 24 qO)] → va_S A s.heap H locs → lv_has ls 7 [(5, .int (nI i64)), (4, .int (nI i2)), (0, .ref o), (1, .int g), (2, .int on), (3, .int ot)] → W p l e rm_X8_agrees s m ([.ref o, .int g, .int on, .int ot] : List Value).toArray below meth c H locs 0 0 (MQ below (q_X8_agrees D k o r fr I L ma mr MI mpr mbr mnx mhd mtn tw pR pW pO qH qW qV qO po sn qn nP nS g on ot A) ([.ref o, .int g, .int on, .int ot] : List Value).toArray s 0 0 A) (F0 m 43 ls []) := by
        intro n64
        induction n64 with
        | zero =>
          intro i64 X64 H locs ls hn64 eX64 hP hD hS hl
          have hi64 : i64 = sn := by omega
          replace eX64 : f_X8_agrees_l43 qH qW qV qO qn on ot i2 u63 sn 0 () = Sum.inr X64 := eX64.symm
          refine lv_iload hx hb dX8_agrees_43 (lv_at hl 0 rfl) ?_
          refine lv_aload_n hx hb dX8_agrees_45 rfl (lv_at hl 2 rfl) ?_
          refine va_get (D := D) (ci := 10) (v := .int (I 23)) (C := RX8) (T := TX8) (N := 37) hx hb hts in_X8 hown hg.1 hP 0 rfl rfl 23 (Nat.le_of_ble_eq_true rfl) (hts _ q1164) (fun _ h9 => h9) rfl dX8_agrees_46 ?_
          refine lv_icmp_ge (tgt := 125) hx hb dX8_agrees_49 (by decide) (fun _ => ?_) (fun c => absurd (xle_t hsn rfl (by omega) (by omega)) c)
          refine lv_iinc (v := (nI (i2 + 1))) (lv' := [(4, .int (nI (i2 + 1))), (5, .int (nI i64)), (0, .ref o), (1, .int g), (2, .int on), (3, .int ot)]) hx hb dX8_agrees_125 hl (k := 1) rfl (xinc1 _) (Nat.le_of_ble_eq_true rfl) rfl (fun ls hl => ?_)
          refine lv_goto (tgt := 23) hx hb dX8_agrees_128 (by decide) ?_
          exact ih2 (i2 + 1) u63 _ _ _ (by omega) (Eq.trans (by subst eu63; exact Eq.symm (Eq.trans (xm_r eX64) (rfl))) eX2) (by rw [eu63, by_27 hS5, hv2]; exact (nI_succ _).symm) hP hD hS (lv_sub hl [0, 2, 3, 4, 5] rfl)
        | succ n64 ih64 =>
          intro i64 X64 H locs ls hn64 eX64 hP hD hS hl
          have hi64 : i64 < sn := by omega
          refine lv_iload hx hb dX8_agrees_43 (lv_at hl 0 rfl) ?_
          refine lv_aload_n hx hb dX8_agrees_45 rfl (lv_at hl 2 rfl) ?_
          refine va_get (D := D) (ci := 10) (v := .int (I 23)) (C := RX8) (T := TX8) (N := 37) hx hb hts in_X8 hown hg.1 hP 0 rfl rfl 23 (Nat.le_of_ble_eq_true rfl) (hts _ q1164) (fun _ h9 => h9) rfl dX8_agrees_46 ?_
          refine lv_icmp_ge (tgt := 125) hx hb dX8_agrees_49 (by decide) (fun c => absurd c (xle_f hsn rfl (by omega) (by omega))) (fun _ => ?_)
          refine lv_aload_n hx hb dX8_agrees_52 rfl (lv_at hl 2 rfl) ?_
          refine lv_iload hx hb dX8_agrees_53 (lv_at hl 0 rfl) ?_
          refine lv_iload_n hx hb dX8_agrees_55 rfl (lv_at hl 4 rfl) ?_
          refine lv_iload_n hx hb dX8_agrees_56 rfl (lv_at hl 5 rfl) ?_
          refine xc_i (wc := [(o, eMM r (.ref ma) fr I L), ((r 24), aI k 24 qH), ((r 25), aI k 24 qW)]) (wr := [(ma, eMI mr MI), ((mr 11), aI k 6 mpr), ((mr 12), aI k 5 mbr), ((mr 13), aI k 5 mnx), ((mr 14), aI k 4 mhd), ((mr 15), aI k 20 mtn), ((r 17), aI k 37 u63), ((r 20), aI k 12 pR), ((r 21), aI k 12 pW), ((r 22), aI k 12 pO), ((r 26), aI k 24 qV), ((r 27), aI k 24 qO)]) hP hD hS hA [0, 11, 12] [1, 2, 3, 4, 5, 6, 7, 8, 9, 10, 13, 14] rfl rfl rfl (by decide) (xrV ⟨hx, hb, hml, hown, hts⟩ hg (m_X8_hourOf l D k _ o r (.ref ma) fr I L qH qW (nI i64) on ot i64 rfl (by first | assumption | omega)) hP hD [0, 11, 12] rfl rfl trivial (ci := 10) (q0 := 0) rfl rfl rfl q1591 q1593 qs76 q93 q1594 xo_X8_hourOf ⟨rfl, rfl⟩ ⟨Nat.le_of_ble_eq_true rfl, Nat.le_of_ble_eq_true rfl⟩ hl.1 (Nat.le_of_ble_eq_true rfl) dX8_agrees_57 ⟨Nat.le_of_ble_eq_true rfl, Nat.le_of_ble_eq_true rfl⟩ rfl) (fun u77 r_ H locs hw hP hD hS hk => ?_)
          obtain ⟨rfl, eu77⟩ := hw
          replace hP : va_P D vwCl [(o, eMM r (.ref ma) fr I L), (ma, eMI mr MI), ((mr 11), aI k 6 mpr), ((mr 12), aI k 5 mbr), ((mr 13), aI k 5 mnx), ((mr 14), aI k 4 mhd), ((mr 15), aI k 20 mtn), ((r 17), aI k 37 u63), ((r 20), aI k 12 pR), ((r 21), aI k 12 pW), ((r 22), aI k 12 pO), ((r 24), aI k 24 qH), ((r 25), aI k 24 qW), ((r 26), aI k 24 qV), ((r 27), aI k 24 qO)] H := hP.sub [12, 0, 1, 2, 3, 4, 5, 6, 7, 8, 9, 13, 14, 10, 11] rfl
          replace hD : va_D A [(o, eMM r (.ref ma) fr I L), (ma, eMI mr MI), ((mr 11), aI k 6 mpr), ((mr 12), aI k 5 mbr), ((mr 13), aI k 5 mnx), ((mr 14), aI k 4 mhd), ((mr 15), aI k 20 mtn), ((r 17), aI k 37 u63), ((r 20), aI k 12 pR), ((r 21), aI k 12 pW), ((r 22), aI k 12 pO), ((r 24), aI k 24 qH), ((r 25), aI k 24 qW), ((r 26), aI k 24 qV), ((r 27), aI k 24 qO)] := hD.sub [12, 0, 1, 2, 3, 4, 5, 6, 7, 8, 9, 13, 14, 10, 11] (by decide) rfl
          refine lv_iload hx hb dX8_agrees_60 (lv_at hl 1 rfl) ?_
          refine lv_icmp_eq (tgt := 68) hx hb dX8_agrees_62 (by decide) (fun c78 => ?_) (fun c78 => ?_)
          · refine lv_aload_n hx hb dX8_agrees_68 rfl (lv_at hl 2 rfl) ?_
            refine va_get (D := D) (ci := 10) (v := .ref (r 17)) (C := RX8) (T := TX8) (N := 37) hx hb hts in_X8 hown hg.1 hP 0 rfl rfl 17 (Nat.le_of_ble_eq_true rfl) (hts _ q1158) (fun _ h9 => h9) rfl dX8_agrees_69 ?_
            refine lv_aload_n hx hb dX8_agrees_72 rfl (lv_at hl 2 rfl) ?_
            refine va_get (D := D) (ci := 10) (v := .ref (r 25)) (C := RX8) (T := TX8) (N := 37) hx hb hts in_X8 hown hg.1 hP 0 rfl rfl 25 (Nat.le_of_ble_eq_true rfl) (hts _ q1166) (fun _ h9 => h9) rfl dX8_agrees_73 ?_
            refine lv_iload hx hb dX8_agrees_76 (lv_at hl 0 rfl) ?_
            refine xa_iald hx hb hg hP 12 rfl rfl (by first | omega | exact Nat.lt_of_lt_of_le (Nat.mod_lt _ (by omega)) (by omega)) (by omega) dX8_agrees_78 ?_
            refine xc_i (wc := [((r 17), aI k 37 u63)]) (wr := [(o, eMM r (.ref ma) fr I L), (ma, eMI mr MI), ((mr 11), aI k 6 mpr), ((mr 12), aI k 5 mbr), ((mr 13), aI k 5 mnx), ((mr 14), aI k 4 mhd), ((mr 15), aI k 20 mtn), ((r 20), aI k 12 pR), ((r 21), aI k 12 pW), ((r 22), aI k 12 pO), ((r 24), aI k 24 qH), ((r 25), aI k 24 qW), ((r 26), aI k 24 qV), ((r 27), aI k 24 qO)]) hP hD hS hA [7] [0, 1, 2, 3, 4, 5, 6, 8, 9, 10, 11, 12, 13, 14] rfl rfl rfl (by decide) (xrS ⟨hx, hb, hml, hown, hts⟩ hg (m_X8_valueOf l D k _ (r 17) u63 (qW i64) (qn i64) ((hqw _ (by omega)).1) ((hqw _ (by omega)).2)) hP hD [7] rfl rfl trivial q1595 q1596 q93 q1597 xo_X8_valueOf ⟨rfl, rfl⟩ ⟨Nat.le_of_ble_eq_true rfl, Nat.le_of_ble_eq_true rfl⟩ hl.1 (Nat.le_of_ble_eq_true rfl) dX8_agrees_79 ⟨Nat.le_of_ble_eq_true rfl, Nat.le_of_ble_eq_true rfl⟩ rfl) (fun u79 r_ H locs hw hP hD hS hk => ?_)
            obtain ⟨rfl, eu79⟩ := hw
            replace hP : va_P D vwCl [(o, eMM r (.ref ma) fr I L), (ma, eMI mr MI), ((mr 11), aI k 6 mpr), ((mr 12), aI k 5 mbr), ((mr 13), aI k 5 mnx), ((mr 14), aI k 4 mhd), ((mr 15), aI k 20 mtn), ((r 17), aI k 37 u63), ((r 20), aI k 12 pR), ((r 21), aI k 12 pW), ((r 22), aI k 12 pO), ((r 24), aI k 24 qH), ((r 25), aI k 24 qW), ((r 26), aI k 24 qV), ((r 27), aI k 24 qO)] H := hP.sub [0, 1, 2, 3, 4, 5, 6, 14, 7, 8, 9, 10, 11, 12, 13] rfl
            replace hD : va_D A [(o, eMM r (.ref ma) fr I L), (ma, eMI mr MI), ((mr 11), aI k 6 mpr), ((mr 12), aI k 5 mbr), ((mr 13), aI k 5 mnx), ((mr 14), aI k 4 mhd), ((mr 15), aI k 20 mtn), ((r 17), aI k 37 u63), ((r 20), aI k 12 pR), ((r 21), aI k 12 pW), ((r 22), aI k 12 pO), ((r 24), aI k 24 qH), ((r 25), aI k 24 qW), ((r 26), aI k 24 qV), ((r 27), aI k 24 qO)] := hD.sub [0, 1, 2, 3, 4, 5, 6, 14, 7, 8, 9, 10, 11, 12, 13] (by decide) rfl
            refine lv_aload_n hx hb dX8_agrees_82 rfl (lv_at hl 2 rfl) ?_
            refine va_get (D := D) (ci := 10) (v := .ref (r 26)) (C := RX8) (T := TX8) (N := 37) hx hb hts in_X8 hown hg.1 hP 0 rfl rfl 26 (Nat.le_of_ble_eq_true rfl) (hts _ q1167) (fun _ h9 => h9) rfl dX8_agrees_83 ?_
            refine lv_iload hx hb dX8_agrees_86 (lv_at hl 0 rfl) ?_
            refine xa_iald hx hb hg hP 13 rfl rfl (by first | omega | exact Nat.lt_of_lt_of_le (Nat.mod_lt _ (by omega)) (by omega)) (by omega) dX8_agrees_88 ?_
            refine lv_isub hx hb dX8_agrees_89 ?_
            refine lv_topi (fun x80 ex80 => ?_)
            refine lv_istore (lv' := [(6, .int x80), (5, .int (nI i64)), (4, .int (nI i2)), (0, .ref o), (1, .int g), (2, .int on), (3, .int ot)]) hx hb dX8_agrees_90 hl (Nat.le_of_ble_eq_true rfl) rfl (fun ls hl => ?_)
            refine lv_iload hx hb dX8_agrees_92 (lv_at hl 0 rfl) ?_
            refine lv_aload_n hx hb dX8_agrees_94 rfl (lv_at hl 3 rfl) ?_
            refine va_get (D := D) (ci := 10) (v := .ref (r 27)) (C := RX8) (T := TX8) (N := 37) hx hb hts in_X8 hown hg.1 hP 0 rfl rfl 27 (Nat.le_of_ble_eq_true rfl) (hts _ q1168) (fun _ h9 => h9) rfl dX8_agrees_95 ?_
            refine lv_iload hx hb dX8_agrees_98 (lv_at hl 1 rfl) ?_
            refine xa_iald hx hb hg hP 14 rfl rfl (by first | omega | exact Nat.lt_of_lt_of_le (Nat.mod_lt _ (by omega)) (by omega)) (by omega) dX8_agrees_100 ?_
            refine lv_icmp_gt (tgt := 117) hx hb dX8_agrees_101 (by decide) (fun c81 => ?_) (fun c81 => ?_)
            · refine lv_iconst (v := 0) hx hb dX8_agrees_117 ci_0 ?_
              exact xret_z hx hb hr hlocks (Nat.le_of_ble_eq_true rfl) (Nat.le_of_ble_eq_true rfl) hS.2.2 dX8_agrees_118 (Or.inl rfl) (fun t ht => ⟨⟨0, (0, u63), rfl, ⟨rfl, (by subst ex80; subst eu79; subst eu77; subst eu63; subst eu1; exact Eq.symm (xm_l0 (Eq.trans eX2.symm (xm_l1 (Eq.trans eX64.symm (Eq.trans (if_pos c78) (Eq.trans (if_pos c81) (rfl)))))))), (Or.inl rfl)⟩, by rw [ht]; exact hP, hD⟩, hS.F ht⟩)
            · refine lv_iload hx hb dX8_agrees_104 (lv_at hl 0 rfl) ?_
              refine lv_ineg hx hb dX8_agrees_106 ?_
              refine lv_aload_n hx hb dX8_agrees_107 rfl (lv_at hl 3 rfl) ?_
              refine va_get (D := D) (ci := 10) (v := .ref (r 27)) (C := RX8) (T := TX8) (N := 37) hx hb hts in_X8 hown hg.1 hP 0 rfl rfl 27 (Nat.le_of_ble_eq_true rfl) (hts _ q1168) (fun _ h9 => h9) rfl dX8_agrees_108 ?_
              refine lv_iload hx hb dX8_agrees_111 (lv_at hl 1 rfl) ?_
              refine xa_iald hx hb hg hP 14 rfl rfl (by first | omega | exact Nat.lt_of_lt_of_le (Nat.mod_lt _ (by omega)) (by omega)) (by omega) dX8_agrees_113 ?_
              refine lv_icmp_le (tgt := 119) hx hb dX8_agrees_114 (by decide) (fun c82 => ?_) (fun c82 => ?_)
              · refine lv_iinc (v := (nI (i64 + 1))) (lv' := [(5, .int (nI (i64 + 1))), (6, .int x80), (4, .int (nI i2)), (0, .ref o), (1, .int g), (2, .int on), (3, .int ot)]) hx hb dX8_agrees_119 hl (k := 1) rfl (xinc1 _) (Nat.le_of_ble_eq_true rfl) rfl (fun ls hl => ?_)
                refine lv_goto (tgt := 43) hx hb dX8_agrees_122 (by decide) ?_
                exact ih64 (i64 + 1) () _ _ _ (by omega) (Eq.trans (by subst ex80; subst eu79; subst eu77; exact Eq.symm (Eq.trans (if_pos c78) (Eq.trans (if_neg c81) (Eq.trans (if_pos c82) (rfl))))) eX64) hP hD hS (lv_sub hl [0, 2, 3, 4, 5, 6] rfl)
              · refine lv_iconst (v := 0) hx hb dX8_agrees_117 ci_0 ?_
                exact xret_z hx hb hr hlocks (Nat.le_of_ble_eq_true rfl) (Nat.le_of_ble_eq_true rfl) hS.2.2 dX8_agrees_118 (Or.inl rfl) (fun t ht => ⟨⟨0, (0, u63), rfl, ⟨rfl, (by subst ex80; subst eu79; subst eu77; subst eu63; subst eu1; exact Eq.symm (xm_l0 (Eq.trans eX2.symm (xm_l1 (Eq.trans eX64.symm (Eq.trans (if_pos c78) (Eq.trans (if_neg c81) (Eq.trans (if_neg c82) (rfl))))))))), (Or.inl rfl)⟩, by rw [ht]; exact hP, hD⟩, hS.F ht⟩)
          · refine lv_goto (tgt := 119) hx hb dX8_agrees_65 (by decide) ?_
            refine lv_iinc (v := (nI (i64 + 1))) (lv' := [(5, .int (nI (i64 + 1))), (4, .int (nI i2)), (0, .ref o), (1, .int g), (2, .int on), (3, .int ot)]) hx hb dX8_agrees_119 hl (k := 0) rfl (xinc1 _) (Nat.le_of_ble_eq_true rfl) rfl (fun ls hl => ?_)
            refine lv_goto (tgt := 43) hx hb dX8_agrees_122 (by decide) ?_
            exact ih64 (i64 + 1) () _ _ _ (by omega) (Eq.trans (by subst eu77; exact Eq.symm (Eq.trans (if_neg c78) (rfl))) eX64) hP hD hS (lv_sub hl [0, 1, 2, 3, 4, 5] rfl)
      exact loop64 sn 0 () _ _ _ (by omega) rfl hP hD hS (lv_sub hl [0, 1, 2, 3, 4, 5] rfl)
  exact loop2 12 0 u1 _ _ _ (by omega) rfl (by rw [eu1]; exact be_27 hS5) hP hD hS (lv_sub hl [0, 1, 2, 3, 4] rfl)
