set_option maxRecDepth 100000
def f_X8_marks_j7 (MI : Nat → Int32) (mbr : Nat → Int32) (mnx : Nat → Int32) (nS : Nat) (ho : Int32) (X33 : (Int64) × (Nat → Int32) × (Nat → Int64) × (Nat → Int64)) (i33 : Nat) (u68 : (Nat → Int32)) : (Int64) × (Nat → Int64) × (Nat → Int64) :=
  if nI i33 < ho then
    (X33.1, X33.2.2.1, X33.2.2.2)
  else
    let u77 := f_X8_leads MI mbr mnx u68 X33.2.2.1 X33.2.2.2 nS
    let x78 := (X33.1 + u77.1)
    (x78, u77.2.1, u77.2.2)
def f_X8_marks_l125 (MI : Nat → Int32) (mpr : Nat → Int32) (mbr : Nat → Int32) (mnx : Nat → Int32) (mhd : Nat → Int32) (mtn : Nat → Int32) (pR : Nat → Int32) (pW : Nat → Int32) (pO : Nat → Int32) (po : Nat → Nat) (nP : Nat) (nS : Nat) (ho : Int32) (i33 : Nat) (X33 : (Int64) × (Nat → Int32) × (Nat → Int64) × (Nat → Int64)) : (Int64) × (Nat → Int32) × (Nat → Int64) × (Nat → Int64) :=
  let u68 := f_X8_byProgram MI mpr mbr mnx mhd mtn pR pW pO X33.2.1 i33 i33 po nP nS
  let v75 := f_X8_marks_j7 MI mbr mnx nS ho X33 i33 u68
  (v75.1, u68, v75.2.1, v75.2.2)
def f_X8_marks_j8 (sx : Int32) (i14 : Nat) : (Int64) :=
  if nI i14 = sx then
    1000000
  else
    0
def f_X8_marks_l78 (sx : Int32) (i14 : Nat) (X14 : (Nat → Int64) × (Nat → Int64)) : (Nat → Int64) × (Nat → Int64) :=
  let v81 := f_X8_marks_j8 sx i14
  let f82 := vp_updL X14.1 i14 v81
  let f83 := vp_updL X14.2 i14 0
  (f82, f83)
def f_X8_marks (MI : Nat → Int32) (mpr : Nat → Int32) (mbr : Nat → Int32) (mnx : Nat → Int32) (mhd : Nat → Int32) (mtn : Nat → Int32) (tw : Nat → Int32) (pR : Nat → Int32) (pW : Nat → Int32) (pO : Nat → Int32) (mk : Nat → Int64) (mb : Nat → Int64) (po : Nat → Nat) (nP : Nat) (nS : Nat) (te : Int32) (li : Int32) (fl : Int32) (sx : Int32) (ho : Int32) (bh : Int32) : Int32 × Int32 × Int32 × Int32 × (Nat → Int32) × (Nat → Int64) × (Nat → Int64) :=
  let u1 := f_X8_isSize MI sx
  if u1 = 0 then
    let u3 := f_X8_refused 1
    (u3.1, 0, u3.2.1, u3.2.2, tw, mk, mb)
  else
    let u4 := f_X8_in ho 0 11
    if u4 = 0 then
      let u6 := f_X8_refused 1
      (u6.1, 0, u6.2.1, u6.2.2, tw, mk, mb)
    else
      let u7 := f_X8_in bh 0 11
      if u7 = 0 then
        let u86 := f_X8_refused 1
        (u86.1, 0, u86.2.1, u86.2.2, tw, mk, mb)
      else
        let u9 := f_X8_isStart te li fl
        if u9 = 0 then
          let u11 := f_X8_refused 2
          (u11.1, 0, u11.2.1, u11.2.2, tw, mk, mb)
        else
          if ho ≤ bh then
            let u13 := f_X8_begins MI mtn tw te li fl nS
            let X14 := itN (f_X8_marks_l78 sx) 5 (mk, mb)
            let X33 := itN (f_X8_marks_l125 MI mpr mbr mnx mhd mtn pR pW pO po nP nS ho) (bh.toNatClampNeg + 1) (0, u13, X14.1, X14.2)
            let u67 := f_X8_done (X33.1.toInt32)
            (u67.1, 0, u67.2.1, u67.2.2, X33.2.1, X33.2.2.1, X33.2.2.2)
          else
            let u85 := f_X8_refused 2
            (u85.1, 0, u85.2.1, u85.2.2, tw, mk, mb)
abbrev q_X8_marks (D : va_G) (k : KK) (o : Nat) (r : Nat → Nat) (fr : Value) (I : Nat → Int32) (L : Nat → Int64) (ma : Nat) (mr : Nat → Nat) (MI : Nat → Int32) (mpr : Nat → Int32) (mbr : Nat → Int32) (mnx : Nat → Int32) (mhd : Nat → Int32) (mtn : Nat → Int32) (tw : Nat → Int32) (pR : Nat → Int32) (pW : Nat → Int32) (pO : Nat → Int32) (mk : Nat → Int64) (mb : Nat → Int64) (po : Nat → Nat) (nP : Nat) (nS : Nat) (te : Int32) (li : Int32) (fl : Int32) (sx : Int32) (ho : Int32) (bh : Int32) (A : Nat → Prop) : Array Value → State → Outcome → State → Prop := va_Qi (fun (r_ : Int32) (u : Int32 × Int32 × Int32 × Int32 × (Nat → Int32) × (Nat → Int64) × (Nat → Int64)) => r_ = u.1 ∧ u = f_X8_marks MI mpr mbr mnx mhd mtn tw pR pW pO mk mb po nP nS te li fl sx ho bh) (bx D (fun u => [(o, eMM r (.ref ma) fr (upd (upd (upd I 0 u.2.1) 1 u.2.2.1) 2 u.2.2.2.1) L), (ma, eMI mr MI), ((mr 11), aI k 6 mpr), ((mr 12), aI k 5 mbr), ((mr 13), aI k 5 mnx), ((mr 14), aI k 4 mhd), ((mr 15), aI k 20 mtn), ((r 17), aI k 37 u.2.2.2.2.1), ((r 20), aI k 12 pR), ((r 21), aI k 12 pW), ((r 22), aI k 12 pO), ((r 35), aL k 5 u.2.2.2.2.2.1), ((r 36), aL k 5 u.2.2.2.2.2.2)]) A) A
abbrev rm_X8_marks : Room := { frames := 5, cells := 0, slots := 0, locals := 200 }
theorem xo_X8_marks : xok yX8_marks 6 := by unfold xok; decide +kernel
set_option maxHeartbeats 8000000 in
theorem m_X8_marks (l : Launch) (D : va_G) (k : KK) (sz : Nat) (o : Nat) (r : Nat → Nat) (fr : Value) (I : Nat → Int32) (L : Nat → Int64) (ma : Nat) (mr : Nat → Nat) (MI : Nat → Int32) (mpr : Nat → Int32) (mbr : Nat → Int32) (mnx : Nat → Int32) (mhd : Nat → Int32) (mtn : Nat → Int32) (tw : Nat → Int32) (pR : Nat → Int32) (pW : Nat → Int32) (pO : Nat → Int32) (mk : Nat → Int64) (mb : Nat → Int64) (po : Nat → Nat) (nP : Nat) (nS : Nat) (te : Int32) (li : Int32) (fl : Int32) (sx : Int32) (ho : Int32) (bh : Int32) (hmS : MI 8 = nI nS) (hS2 : 2 ≤ nS) (hS5 : nS ≤ 5) (hpr : MI 7 = nI nP) (hP1 : 1 ≤ nP) (hP6 : nP ≤ 6) (hroom : ¬ MI 0 = 0) (hlife : ¬ MI 4 = 0) (hhd : ∀ j, j < 4 → ¬ 9 + mhd j = 0) (hpo : ∀ h, h < 12 → pO h = nI (po h) ∧ po h < 4) : Met l yX8_marks (ws_ yX8_marks cX8_marks 10 (some .int)) rm_X8_marks (pcx D k [.ref o, .int te, .int li, .int fl, .int sx, .int ho, .int bh] sz [(o, eMM r (.ref ma) fr I L), (ma, eMI mr MI), ((mr 11), aI k 6 mpr), ((mr 12), aI k 5 mbr), ((mr 13), aI k 5 mnx), ((mr 14), aI k 4 mhd), ((mr 15), aI k 20 mtn), ((r 17), aI k 37 tw), ((r 20), aI k 12 pR), ((r 21), aI k 12 pW), ((r 22), aI k 12 pO), ((r 35), aL k 5 mk), ((r 36), aL k 5 mb)] (fun _ => True)) (q_X8_marks D k o r fr I L ma mr MI mpr mbr mnx mhd mtn tw pR pW pO mk mb po nP nS te li fl sx ho bh (va_A [(o, eMM r (.ref ma) fr I L), (ma, eMI mr MI), ((mr 11), aI k 6 mpr), ((mr 12), aI k 5 mbr), ((mr 13), aI k 5 mnx), ((mr 14), aI k 4 mhd), ((mr 15), aI k 20 mtn), ((r 17), aI k 37 tw), ((r 20), aI k 12 pR), ((r 21), aI k 12 pW), ((r 22), aI k 12 pO), ((r 35), aL k 5 mk), ((r 36), aL k 5 mb)] sz)) 0 0 (va_A [(o, eMM r (.ref ma) fr I L), (ma, eMI mr MI), ((mr 11), aI k 6 mpr), ((mr 12), aI k 5 mbr), ((mr 13), aI k 5 mnx), ((mr 14), aI k 4 mhd), ((mr 15), aI k 20 mtn), ((r 17), aI k 37 tw), ((r 20), aI k 12 pR), ((r 21), aI k 12 pW), ((r 22), aI k 12 pO), ((r 35), aL k 5 mk), ((r 36), aL k 5 mb)] sz) := by
  refine Met.start (Qc := q_X8_marks D k o r fr I L ma mr MI mpr mbr mnx mhd mtn tw pR pW pO mk mb po nP nS te li fl sx ho bh) (by decide) (Nat.le_of_ble_eq_true rfl) ?_
  intro p e s m below meth c A hx hb hr hlocks hml hown hin hts hg hP hD hA hAn hS hY hsz ls hl
  have hown : s.vm.findClass RX8 = some m.cls := hown
  have hl : lv_has ls 10 [(0, .ref o), (1, .int te), (2, .int li), (3, .int fl), (4, .int sx), (5, .int ho), (6, .int bh)] := hl
  refine lv_aload_n hx hb dX8_marks_0 rfl (lv_at hl 0 rfl) ?_
  refine lv_iconst (v := 0) hx hb dX8_marks_1 ci_0 ?_
  refine va_put (D := D) (ci := 10) (v := .int 0) (C := RX8) (T := TX8) (N := 37) hx hb hts in_X8 tyX8 tyX8_ok nmX8 hown hg.1 hP hD hS 0 rfl rfl 0 (Nat.le_of_ble_eq_true rfl) (hts _ q1141) (fun _ h9 => h9) rfl ftX8_0 rfl rfl (Nat.le_of_ble_eq_true rfl) dX8_marks_2 (fun H locs hP hD hS => ?_)
  replace hP : va_P D vwCl [(o, eMM r (.ref ma) fr (upd I 0 0) L), (ma, eMI mr MI), ((mr 11), aI k 6 mpr), ((mr 12), aI k 5 mbr), ((mr 13), aI k 5 mnx), ((mr 14), aI k 4 mhd), ((mr 15), aI k 20 mtn), ((r 17), aI k 37 tw), ((r 20), aI k 12 pR), ((r 21), aI k 12 pW), ((r 22), aI k 12 pO), ((r 35), aL k 5 mk), ((r 36), aL k 5 mb)] H := hP
  replace hD : va_D A [(o, eMM r (.ref ma) fr (upd I 0 0) L), (ma, eMI mr MI), ((mr 11), aI k 6 mpr), ((mr 12), aI k 5 mbr), ((mr 13), aI k 5 mnx), ((mr 14), aI k 4 mhd), ((mr 15), aI k 20 mtn), ((r 17), aI k 37 tw), ((r 20), aI k 12 pR), ((r 21), aI k 12 pW), ((r 22), aI k 12 pO), ((r 35), aL k 5 mk), ((r 36), aL k 5 mb)] := hD
  refine lv_aload_n hx hb dX8_marks_5 rfl (lv_at hl 0 rfl) ?_
  refine lv_iload hx hb dX8_marks_6 (lv_at hl 4 rfl) ?_
  refine xc_i (wc := [(o, eMM r (.ref ma) fr (upd I 0 0) L), (ma, eMI mr MI)]) (wr := [((mr 11), aI k 6 mpr), ((mr 12), aI k 5 mbr), ((mr 13), aI k 5 mnx), ((mr 14), aI k 4 mhd), ((mr 15), aI k 20 mtn), ((r 17), aI k 37 tw), ((r 20), aI k 12 pR), ((r 21), aI k 12 pW), ((r 22), aI k 12 pO), ((r 35), aL k 5 mk), ((r 36), aL k 5 mb)]) hP hD hS hA [0, 1] [2, 3, 4, 5, 6, 7, 8, 9, 10, 11, 12] rfl rfl rfl (by decide) (xrV ⟨hx, hb, hml, hown, hts⟩ hg (m_X8_isSize l D k _ o r fr (upd I 0 0) L ma mr MI sx) hP hD [0, 1] rfl rfl trivial (ci := 10) (q0 := 0) rfl rfl rfl q1546 q1548 qs70 q93 q1549 xo_X8_isSize ⟨rfl, rfl⟩ ⟨Nat.le_of_ble_eq_true rfl, Nat.le_of_ble_eq_true rfl⟩ hl.1 (Nat.le_of_ble_eq_true rfl) dX8_marks_8 ⟨Nat.le_of_ble_eq_true rfl, Nat.le_of_ble_eq_true rfl⟩ rfl) (fun u1 r_ H locs hw hP hD hS hk => ?_)
  obtain ⟨rfl, eu1, bu1⟩ := hw
  replace hP : va_P D vwCl [(o, eMM r (.ref ma) fr (upd I 0 0) L), (ma, eMI mr MI), ((mr 11), aI k 6 mpr), ((mr 12), aI k 5 mbr), ((mr 13), aI k 5 mnx), ((mr 14), aI k 4 mhd), ((mr 15), aI k 20 mtn), ((r 17), aI k 37 tw), ((r 20), aI k 12 pR), ((r 21), aI k 12 pW), ((r 22), aI k 12 pO), ((r 35), aL k 5 mk), ((r 36), aL k 5 mb)] H := hP.sub [11, 12, 0, 1, 2, 3, 4, 5, 6, 7, 8, 9, 10] rfl
  replace hD : va_D A [(o, eMM r (.ref ma) fr (upd I 0 0) L), (ma, eMI mr MI), ((mr 11), aI k 6 mpr), ((mr 12), aI k 5 mbr), ((mr 13), aI k 5 mnx), ((mr 14), aI k 4 mhd), ((mr 15), aI k 20 mtn), ((r 17), aI k 37 tw), ((r 20), aI k 12 pR), ((r 21), aI k 12 pW), ((r 22), aI k 12 pO), ((r 35), aL k 5 mk), ((r 36), aL k 5 mb)] := hD.sub [11, 12, 0, 1, 2, 3, 4, 5, 6, 7, 8, 9, 10] (by decide) rfl
  refine lv_if_eq (tgt := 36) hx hb dX8_marks_11 (by decide) (fun c2 => ?_) (fun c2 => ?_)
  · refine lv_aload_n hx hb dX8_marks_36 rfl (lv_at hl 0 rfl) ?_
    refine lv_iconst (v := 1) hx hb dX8_marks_37 ci_1 ?_
    refine xc_i (wc := [(o, eMM r (.ref ma) fr (upd I 0 0) L)]) (wr := [(ma, eMI mr MI), ((mr 11), aI k 6 mpr), ((mr 12), aI k 5 mbr), ((mr 13), aI k 5 mnx), ((mr 14), aI k 4 mhd), ((mr 15), aI k 20 mtn), ((r 17), aI k 37 tw), ((r 20), aI k 12 pR), ((r 21), aI k 12 pW), ((r 22), aI k 12 pO), ((r 35), aL k 5 mk), ((r 36), aL k 5 mb)]) hP hD hS hA [0] [1, 2, 3, 4, 5, 6, 7, 8, 9, 10, 11, 12] rfl rfl rfl (by decide) (xrV ⟨hx, hb, hml, hown, hts⟩ hg (m_X8_refused l D k _ o r (.ref ma) fr (upd I 0 0) L 1) hP hD [0] rfl rfl trivial (ci := 10) (q0 := 0) rfl rfl rfl q1265 q1267 qs39 q93 q1268 xo_X8_refused ⟨rfl, rfl⟩ ⟨Nat.le_of_ble_eq_true rfl, Nat.le_of_ble_eq_true rfl⟩ hl.1 (Nat.le_of_ble_eq_true rfl) dX8_marks_38 ⟨Nat.le_of_ble_eq_true rfl, Nat.le_of_ble_eq_true rfl⟩ rfl) (fun r_ u3 H locs hw hP hD hS hk => ?_)
    obtain ⟨rfl, eu3⟩ := hw
    replace hP : va_P D vwCl [(o, eMM r (.ref ma) fr (upd (upd (upd I 0 0) 1 u3.2.1) 2 u3.2.2) L), (ma, eMI mr MI), ((mr 11), aI k 6 mpr), ((mr 12), aI k 5 mbr), ((mr 13), aI k 5 mnx), ((mr 14), aI k 4 mhd), ((mr 15), aI k 20 mtn), ((r 17), aI k 37 tw), ((r 20), aI k 12 pR), ((r 21), aI k 12 pW), ((r 22), aI k 12 pO), ((r 35), aL k 5 mk), ((r 36), aL k 5 mb)] H := hP.sub [12, 0, 1, 2, 3, 4, 5, 6, 7, 8, 9, 10, 11] rfl
    replace hD : va_D A [(o, eMM r (.ref ma) fr (upd (upd (upd I 0 0) 1 u3.2.1) 2 u3.2.2) L), (ma, eMI mr MI), ((mr 11), aI k 6 mpr), ((mr 12), aI k 5 mbr), ((mr 13), aI k 5 mnx), ((mr 14), aI k 4 mhd), ((mr 15), aI k 20 mtn), ((r 17), aI k 37 tw), ((r 20), aI k 12 pR), ((r 21), aI k 12 pW), ((r 22), aI k 12 pO), ((r 35), aL k 5 mk), ((r 36), aL k 5 mb)] := hD.sub [12, 0, 1, 2, 3, 4, 5, 6, 7, 8, 9, 10, 11] (by decide) rfl
    exact xret_i hx hb hr hlocks (Nat.le_of_ble_eq_true rfl) (Nat.le_of_ble_eq_true rfl) hS.2.2 dX8_marks_41 (fun t ht => ⟨⟨u3.1, (u3.1, 0, u3.2.1, u3.2.2, tw, mk, mb), rfl, ⟨rfl, (by subst eu3; subst eu1; exact Eq.symm (Eq.trans (if_pos c2) (rfl)))⟩, by rw [ht]; exact hP, hD⟩, hS.F ht⟩)
  · refine lv_iload hx hb dX8_marks_14 (lv_at hl 5 rfl) ?_
    refine lv_iconst (v := 0) hx hb dX8_marks_16 ci_0 ?_
    refine lv_bipush (v := 11) hx hb dX8_marks_17 cb_11 ?_
    refine xc_i (wc := []) (wr := [(o, eMM r (.ref ma) fr (upd I 0 0) L), (ma, eMI mr MI), ((mr 11), aI k 6 mpr), ((mr 12), aI k 5 mbr), ((mr 13), aI k 5 mnx), ((mr 14), aI k 4 mhd), ((mr 15), aI k 20 mtn), ((r 17), aI k 37 tw), ((r 20), aI k 12 pR), ((r 21), aI k 12 pW), ((r 22), aI k 12 pO), ((r 35), aL k 5 mk), ((r 36), aL k 5 mb)]) hP hD hS hA [] [0, 1, 2, 3, 4, 5, 6, 7, 8, 9, 10, 11, 12] rfl rfl rfl (by decide) (xrS ⟨hx, hb, hml, hown, hts⟩ hg (m_X8_in l D k _ ho 0 11) hP hD [] rfl rfl trivial q1426 q1427 q93 q1428 xo_X8_in ⟨rfl, rfl⟩ ⟨Nat.le_of_ble_eq_true rfl, Nat.le_of_ble_eq_true rfl⟩ hl.1 (Nat.le_of_ble_eq_true rfl) dX8_marks_19 ⟨Nat.le_of_ble_eq_true rfl, Nat.le_of_ble_eq_true rfl⟩ rfl) (fun u4 r_ H locs hw hP hD hS hk => ?_)
    obtain ⟨rfl, eu4, bu4⟩ := hw
    replace hP : va_P D vwCl [(o, eMM r (.ref ma) fr (upd I 0 0) L), (ma, eMI mr MI), ((mr 11), aI k 6 mpr), ((mr 12), aI k 5 mbr), ((mr 13), aI k 5 mnx), ((mr 14), aI k 4 mhd), ((mr 15), aI k 20 mtn), ((r 17), aI k 37 tw), ((r 20), aI k 12 pR), ((r 21), aI k 12 pW), ((r 22), aI k 12 pO), ((r 35), aL k 5 mk), ((r 36), aL k 5 mb)] H := hP.sub [0, 1, 2, 3, 4, 5, 6, 7, 8, 9, 10, 11, 12] rfl
    replace hD : va_D A [(o, eMM r (.ref ma) fr (upd I 0 0) L), (ma, eMI mr MI), ((mr 11), aI k 6 mpr), ((mr 12), aI k 5 mbr), ((mr 13), aI k 5 mnx), ((mr 14), aI k 4 mhd), ((mr 15), aI k 20 mtn), ((r 17), aI k 37 tw), ((r 20), aI k 12 pR), ((r 21), aI k 12 pW), ((r 22), aI k 12 pO), ((r 35), aL k 5 mk), ((r 36), aL k 5 mb)] := hD.sub [0, 1, 2, 3, 4, 5, 6, 7, 8, 9, 10, 11, 12] (by decide) rfl
    refine lv_if_eq (tgt := 36) hx hb dX8_marks_22 (by decide) (fun c5 => ?_) (fun c5 => ?_)
    · refine lv_aload_n hx hb dX8_marks_36 rfl (lv_at hl 0 rfl) ?_
      refine lv_iconst (v := 1) hx hb dX8_marks_37 ci_1 ?_
      refine xc_i (wc := [(o, eMM r (.ref ma) fr (upd I 0 0) L)]) (wr := [(ma, eMI mr MI), ((mr 11), aI k 6 mpr), ((mr 12), aI k 5 mbr), ((mr 13), aI k 5 mnx), ((mr 14), aI k 4 mhd), ((mr 15), aI k 20 mtn), ((r 17), aI k 37 tw), ((r 20), aI k 12 pR), ((r 21), aI k 12 pW), ((r 22), aI k 12 pO), ((r 35), aL k 5 mk), ((r 36), aL k 5 mb)]) hP hD hS hA [0] [1, 2, 3, 4, 5, 6, 7, 8, 9, 10, 11, 12] rfl rfl rfl (by decide) (xrV ⟨hx, hb, hml, hown, hts⟩ hg (m_X8_refused l D k _ o r (.ref ma) fr (upd I 0 0) L 1) hP hD [0] rfl rfl trivial (ci := 10) (q0 := 0) rfl rfl rfl q1265 q1267 qs39 q93 q1268 xo_X8_refused ⟨rfl, rfl⟩ ⟨Nat.le_of_ble_eq_true rfl, Nat.le_of_ble_eq_true rfl⟩ hl.1 (Nat.le_of_ble_eq_true rfl) dX8_marks_38 ⟨Nat.le_of_ble_eq_true rfl, Nat.le_of_ble_eq_true rfl⟩ rfl) (fun r_ u6 H locs hw hP hD hS hk => ?_)
      obtain ⟨rfl, eu6⟩ := hw
      replace hP : va_P D vwCl [(o, eMM r (.ref ma) fr (upd (upd (upd I 0 0) 1 u6.2.1) 2 u6.2.2) L), (ma, eMI mr MI), ((mr 11), aI k 6 mpr), ((mr 12), aI k 5 mbr), ((mr 13), aI k 5 mnx), ((mr 14), aI k 4 mhd), ((mr 15), aI k 20 mtn), ((r 17), aI k 37 tw), ((r 20), aI k 12 pR), ((r 21), aI k 12 pW), ((r 22), aI k 12 pO), ((r 35), aL k 5 mk), ((r 36), aL k 5 mb)] H := hP.sub [12, 0, 1, 2, 3, 4, 5, 6, 7, 8, 9, 10, 11] rfl
      replace hD : va_D A [(o, eMM r (.ref ma) fr (upd (upd (upd I 0 0) 1 u6.2.1) 2 u6.2.2) L), (ma, eMI mr MI), ((mr 11), aI k 6 mpr), ((mr 12), aI k 5 mbr), ((mr 13), aI k 5 mnx), ((mr 14), aI k 4 mhd), ((mr 15), aI k 20 mtn), ((r 17), aI k 37 tw), ((r 20), aI k 12 pR), ((r 21), aI k 12 pW), ((r 22), aI k 12 pO), ((r 35), aL k 5 mk), ((r 36), aL k 5 mb)] := hD.sub [12, 0, 1, 2, 3, 4, 5, 6, 7, 8, 9, 10, 11] (by decide) rfl
      exact xret_i hx hb hr hlocks (Nat.le_of_ble_eq_true rfl) (Nat.le_of_ble_eq_true rfl) hS.2.2 dX8_marks_41 (fun t ht => ⟨⟨u6.1, (u6.1, 0, u6.2.1, u6.2.2, tw, mk, mb), rfl, ⟨rfl, (by subst eu6; subst eu4; subst eu1; exact Eq.symm (Eq.trans (if_neg c2) (Eq.trans (if_pos c5) (rfl))))⟩, by rw [ht]; exact hP, hD⟩, hS.F ht⟩)
    · refine lv_iload hx hb dX8_marks_25 (lv_at hl 6 rfl) ?_
      refine lv_iconst (v := 0) hx hb dX8_marks_27 ci_0 ?_
      refine lv_bipush (v := 11) hx hb dX8_marks_28 cb_11 ?_
      refine xc_i (wc := []) (wr := [(o, eMM r (.ref ma) fr (upd I 0 0) L), (ma, eMI mr MI), ((mr 11), aI k 6 mpr), ((mr 12), aI k 5 mbr), ((mr 13), aI k 5 mnx), ((mr 14), aI k 4 mhd), ((mr 15), aI k 20 mtn), ((r 17), aI k 37 tw), ((r 20), aI k 12 pR), ((r 21), aI k 12 pW), ((r 22), aI k 12 pO), ((r 35), aL k 5 mk), ((r 36), aL k 5 mb)]) hP hD hS hA [] [0, 1, 2, 3, 4, 5, 6, 7, 8, 9, 10, 11, 12] rfl rfl rfl (by decide) (xrS ⟨hx, hb, hml, hown, hts⟩ hg (m_X8_in l D k _ bh 0 11) hP hD [] rfl rfl trivial q1426 q1427 q93 q1428 xo_X8_in ⟨rfl, rfl⟩ ⟨Nat.le_of_ble_eq_true rfl, Nat.le_of_ble_eq_true rfl⟩ hl.1 (Nat.le_of_ble_eq_true rfl) dX8_marks_30 ⟨Nat.le_of_ble_eq_true rfl, Nat.le_of_ble_eq_true rfl⟩ rfl) (fun u7 r_ H locs hw hP hD hS hk => ?_)
      obtain ⟨rfl, eu7, bu7⟩ := hw
      replace hP : va_P D vwCl [(o, eMM r (.ref ma) fr (upd I 0 0) L), (ma, eMI mr MI), ((mr 11), aI k 6 mpr), ((mr 12), aI k 5 mbr), ((mr 13), aI k 5 mnx), ((mr 14), aI k 4 mhd), ((mr 15), aI k 20 mtn), ((r 17), aI k 37 tw), ((r 20), aI k 12 pR), ((r 21), aI k 12 pW), ((r 22), aI k 12 pO), ((r 35), aL k 5 mk), ((r 36), aL k 5 mb)] H := hP.sub [0, 1, 2, 3, 4, 5, 6, 7, 8, 9, 10, 11, 12] rfl
      replace hD : va_D A [(o, eMM r (.ref ma) fr (upd I 0 0) L), (ma, eMI mr MI), ((mr 11), aI k 6 mpr), ((mr 12), aI k 5 mbr), ((mr 13), aI k 5 mnx), ((mr 14), aI k 4 mhd), ((mr 15), aI k 20 mtn), ((r 17), aI k 37 tw), ((r 20), aI k 12 pR), ((r 21), aI k 12 pW), ((r 22), aI k 12 pO), ((r 35), aL k 5 mk), ((r 36), aL k 5 mb)] := hD.sub [0, 1, 2, 3, 4, 5, 6, 7, 8, 9, 10, 11, 12] (by decide) rfl
      refine lv_if_ne (tgt := 42) hx hb dX8_marks_33 (by decide) (fun c8 => ?_) (fun c8 => ?_)
      · obtain ⟨hn_bh, hb_bh⟩ := m_in0 xl_11 (by decide) (fun h => c8 (eu7.trans h))
        refine lv_iload_n hx hb dX8_marks_42 rfl (lv_at hl 1 rfl) ?_
        refine lv_iload_n hx hb dX8_marks_43 rfl (lv_at hl 2 rfl) ?_
        refine lv_iload_n hx hb dX8_marks_44 rfl (lv_at hl 3 rfl) ?_
        refine xc_i (wc := []) (wr := [(o, eMM r (.ref ma) fr (upd I 0 0) L), (ma, eMI mr MI), ((mr 11), aI k 6 mpr), ((mr 12), aI k 5 mbr), ((mr 13), aI k 5 mnx), ((mr 14), aI k 4 mhd), ((mr 15), aI k 20 mtn), ((r 17), aI k 37 tw), ((r 20), aI k 12 pR), ((r 21), aI k 12 pW), ((r 22), aI k 12 pO), ((r 35), aL k 5 mk), ((r 36), aL k 5 mb)]) hP hD hS hA [] [0, 1, 2, 3, 4, 5, 6, 7, 8, 9, 10, 11, 12] rfl rfl rfl (by decide) (xrS ⟨hx, hb, hml, hown, hts⟩ hg (m_X8_isStart l D k _ te li fl) hP hD [] rfl rfl trivial q1613 q1614 q93 q1615 xo_X8_isStart ⟨rfl, rfl⟩ ⟨Nat.le_of_ble_eq_true rfl, Nat.le_of_ble_eq_true rfl⟩ hl.1 (Nat.le_of_ble_eq_true rfl) dX8_marks_45 ⟨Nat.le_of_ble_eq_true rfl, Nat.le_of_ble_eq_true rfl⟩ rfl) (fun u9 r_ H locs hw hP hD hS hk => ?_)
        obtain ⟨rfl, eu9, bu9⟩ := hw
        replace hP : va_P D vwCl [(o, eMM r (.ref ma) fr (upd I 0 0) L), (ma, eMI mr MI), ((mr 11), aI k 6 mpr), ((mr 12), aI k 5 mbr), ((mr 13), aI k 5 mnx), ((mr 14), aI k 4 mhd), ((mr 15), aI k 20 mtn), ((r 17), aI k 37 tw), ((r 20), aI k 12 pR), ((r 21), aI k 12 pW), ((r 22), aI k 12 pO), ((r 35), aL k 5 mk), ((r 36), aL k 5 mb)] H := hP.sub [0, 1, 2, 3, 4, 5, 6, 7, 8, 9, 10, 11, 12] rfl
        replace hD : va_D A [(o, eMM r (.ref ma) fr (upd I 0 0) L), (ma, eMI mr MI), ((mr 11), aI k 6 mpr), ((mr 12), aI k 5 mbr), ((mr 13), aI k 5 mnx), ((mr 14), aI k 4 mhd), ((mr 15), aI k 20 mtn), ((r 17), aI k 37 tw), ((r 20), aI k 12 pR), ((r 21), aI k 12 pW), ((r 22), aI k 12 pO), ((r 35), aL k 5 mk), ((r 36), aL k 5 mb)] := hD.sub [0, 1, 2, 3, 4, 5, 6, 7, 8, 9, 10, 11, 12] (by decide) rfl
        refine lv_if_eq (tgt := 58) hx hb dX8_marks_48 (by decide) (fun c10 => ?_) (fun c10 => ?_)
        · refine lv_aload_n hx hb dX8_marks_58 rfl (lv_at hl 0 rfl) ?_
          refine lv_iconst (v := 2) hx hb dX8_marks_59 ci_2 ?_
          refine xc_i (wc := [(o, eMM r (.ref ma) fr (upd I 0 0) L)]) (wr := [(ma, eMI mr MI), ((mr 11), aI k 6 mpr), ((mr 12), aI k 5 mbr), ((mr 13), aI k 5 mnx), ((mr 14), aI k 4 mhd), ((mr 15), aI k 20 mtn), ((r 17), aI k 37 tw), ((r 20), aI k 12 pR), ((r 21), aI k 12 pW), ((r 22), aI k 12 pO), ((r 35), aL k 5 mk), ((r 36), aL k 5 mb)]) hP hD hS hA [0] [1, 2, 3, 4, 5, 6, 7, 8, 9, 10, 11, 12] rfl rfl rfl (by decide) (xrV ⟨hx, hb, hml, hown, hts⟩ hg (m_X8_refused l D k _ o r (.ref ma) fr (upd I 0 0) L 2) hP hD [0] rfl rfl trivial (ci := 10) (q0 := 0) rfl rfl rfl q1265 q1267 qs39 q93 q1268 xo_X8_refused ⟨rfl, rfl⟩ ⟨Nat.le_of_ble_eq_true rfl, Nat.le_of_ble_eq_true rfl⟩ hl.1 (Nat.le_of_ble_eq_true rfl) dX8_marks_60 ⟨Nat.le_of_ble_eq_true rfl, Nat.le_of_ble_eq_true rfl⟩ rfl) (fun r_ u11 H locs hw hP hD hS hk => ?_)
          obtain ⟨rfl, eu11⟩ := hw
          replace hP : va_P D vwCl [(o, eMM r (.ref ma) fr (upd (upd (upd I 0 0) 1 u11.2.1) 2 u11.2.2) L), (ma, eMI mr MI), ((mr 11), aI k 6 mpr), ((mr 12), aI k 5 mbr), ((mr 13), aI k 5 mnx), ((mr 14), aI k 4 mhd), ((mr 15), aI k 20 mtn), ((r 17), aI k 37 tw), ((r 20), aI k 12 pR), ((r 21), aI k 12 pW), ((r 22), aI k 12 pO), ((r 35), aL k 5 mk), ((r 36), aL k 5 mb)] H := hP.sub [12, 0, 1, 2, 3, 4, 5, 6, 7, 8, 9, 10, 11] rfl
          replace hD : va_D A [(o, eMM r (.ref ma) fr (upd (upd (upd I 0 0) 1 u11.2.1) 2 u11.2.2) L), (ma, eMI mr MI), ((mr 11), aI k 6 mpr), ((mr 12), aI k 5 mbr), ((mr 13), aI k 5 mnx), ((mr 14), aI k 4 mhd), ((mr 15), aI k 20 mtn), ((r 17), aI k 37 tw), ((r 20), aI k 12 pR), ((r 21), aI k 12 pW), ((r 22), aI k 12 pO), ((r 35), aL k 5 mk), ((r 36), aL k 5 mb)] := hD.sub [12, 0, 1, 2, 3, 4, 5, 6, 7, 8, 9, 10, 11] (by decide) rfl
          exact xret_i hx hb hr hlocks (Nat.le_of_ble_eq_true rfl) (Nat.le_of_ble_eq_true rfl) hS.2.2 dX8_marks_63 (fun t ht => ⟨⟨u11.1, (u11.1, 0, u11.2.1, u11.2.2, tw, mk, mb), rfl, ⟨rfl, (by subst eu11; subst eu9; subst eu7; subst eu4; subst eu1; exact Eq.symm (Eq.trans (if_neg c2) (Eq.trans (if_neg c5) (Eq.trans (if_neg c8) (Eq.trans (if_pos c10) (rfl))))))⟩, by rw [ht]; exact hP, hD⟩, hS.F ht⟩)
        · refine lv_iload hx hb dX8_marks_51 (lv_at hl 6 rfl) ?_
          refine lv_iload hx hb dX8_marks_53 (lv_at hl 5 rfl) ?_
          refine lv_icmp_ge (tgt := 64) hx hb dX8_marks_55 (by decide) (fun c12 => ?_) (fun c12 => ?_)
          · refine lv_aload_n hx hb dX8_marks_64 rfl (lv_at hl 0 rfl) ?_
            refine lv_aload_n hx hb dX8_marks_65 rfl (lv_at hl 0 rfl) ?_
            refine va_get (D := D) (ci := 10) (v := .ref (r 17)) (C := RX8) (T := TX8) (N := 37) hx hb hts in_X8 hown hg.1 hP 0 rfl rfl 17 (Nat.le_of_ble_eq_true rfl) (hts _ q1158) (fun _ h9 => h9) rfl dX8_marks_66 ?_
            refine lv_iload_n hx hb dX8_marks_69 rfl (lv_at hl 1 rfl) ?_
            refine lv_iload_n hx hb dX8_marks_70 rfl (lv_at hl 2 rfl) ?_
            refine lv_iload_n hx hb dX8_marks_71 rfl (lv_at hl 3 rfl) ?_
            refine xc_v (wc := [(o, eMM r (.ref ma) fr (upd I 0 0) L), (ma, eMI mr MI), ((mr 11), aI k 6 mpr), ((mr 12), aI k 5 mbr), ((mr 13), aI k 5 mnx), ((mr 14), aI k 4 mhd), ((mr 15), aI k 20 mtn), ((r 17), aI k 37 tw)]) (wr := [((r 20), aI k 12 pR), ((r 21), aI k 12 pW), ((r 22), aI k 12 pO), ((r 35), aL k 5 mk), ((r 36), aL k 5 mb)]) hP hD hS hA [0, 1, 2, 3, 4, 5, 6, 7] [8, 9, 10, 11, 12] rfl rfl rfl (by decide) (xrV ⟨hx, hb, hml, hown, hts⟩ hg (m_X8_begins l D k _ o r fr (upd I 0 0) L ma mr MI mpr mbr mnx mhd mtn (r 17) tw te li fl nS hmS hS2 hS5) hP hD [0, 1, 2, 3, 4, 5, 6, 7] rfl rfl trivial (ci := 10) (q0 := 0) rfl rfl rfl q1583 q1585 qs74 q93 q1586 xo_X8_begins ⟨rfl, rfl⟩ ⟨Nat.le_of_ble_eq_true rfl, Nat.le_of_ble_eq_true rfl⟩ hl.1 (Nat.le_of_ble_eq_true rfl) dX8_marks_72 ⟨Nat.le_of_ble_eq_true rfl, Nat.le_of_ble_eq_true rfl⟩ rfl) (fun u13 H locs hw hP hD hS hk => ?_)
            have eu13 := hw
            replace hP : va_P D vwCl [(o, eMM r (.ref ma) fr (upd I 0 0) L), (ma, eMI mr MI), ((mr 11), aI k 6 mpr), ((mr 12), aI k 5 mbr), ((mr 13), aI k 5 mnx), ((mr 14), aI k 4 mhd), ((mr 15), aI k 20 mtn), ((r 17), aI k 37 u13), ((r 20), aI k 12 pR), ((r 21), aI k 12 pW), ((r 22), aI k 12 pO), ((r 35), aL k 5 mk), ((r 36), aL k 5 mb)] H := hP.sub [5, 6, 7, 8, 9, 10, 11, 12, 0, 1, 2, 3, 4] rfl
            replace hD : va_D A [(o, eMM r (.ref ma) fr (upd I 0 0) L), (ma, eMI mr MI), ((mr 11), aI k 6 mpr), ((mr 12), aI k 5 mbr), ((mr 13), aI k 5 mnx), ((mr 14), aI k 4 mhd), ((mr 15), aI k 20 mtn), ((r 17), aI k 37 u13), ((r 20), aI k 12 pR), ((r 21), aI k 12 pW), ((r 22), aI k 12 pO), ((r 35), aL k 5 mk), ((r 36), aL k 5 mb)] := hD.sub [5, 6, 7, 8, 9, 10, 11, 12, 0, 1, 2, 3, 4] (by decide) rfl
            refine lv_iconst (v := 0) hx hb dX8_marks_75 ci_0 ?_
            refine lv_istore (lv' := [(7, .int 0), (0, .ref o), (1, .int te), (2, .int li), (3, .int fl), (4, .int sx), (5, .int ho), (6, .int bh)]) hx hb dX8_marks_76 hl (Nat.le_of_ble_eq_true rfl) rfl (fun ls hl => ?_)
            have loop14 : ∀ (n14 i14 : Nat) (X14 : (Nat → Int64) × (Nat → Int64)) (H : Heap) (locs : List Loc) (ls : Array Slot), i14 + n14 = 5 → X14 = itN (f_X8_marks_l78 sx) i14 (mk, mb) → va_P D vwCl [(o, eMM r (.ref ma) fr (upd I 0 0) L), (ma, eMI mr MI), ((mr 11), aI k 6 mpr), ((mr 12), aI k 5 mbr), ((mr 13), aI k 5 mnx), ((mr 14), aI k 4 mhd), ((mr 15), aI k 20 mtn), ((r 17), aI k 37 u13), ((r 20), aI k 12 pR), ((r 21), aI k 12 pW), ((r 22), aI k 12 pO), ((r 35), aL k 5 X14.1), ((r 36), aL k 5 X14.2)] H → va_D A [(o, eMM r (.ref ma) fr (upd I 0 0) L), (ma, eMI mr MI), ((mr 11), aI k 6 mpr), ((mr 12), aI k 5 mbr), ((mr 13), aI k 5 mnx), ((mr 14), aI k 4 mhd), ((mr 15), aI k 20 mtn), ((r 17), aI k 37 u13), ((r 20), aI k 12 pR), ((r 21), aI k 12 pW), ((r 22), aI k 12 pO), ((r 35), aL k 5 X14.1), ((r 36), aL k 5 X14.2)] → va_S A s.heap H locs → lv_has ls 10 [(7, .int (nI i14)), (0, .ref o), (1, .int te), (2, .int li), (3, .int fl), (4, .int sx), (5, .int ho), (6, .int bh)] → W p l e rm_X8_marks s m ([.ref o, .int te, .int li, .int fl, .int sx, .int ho, .int bh] : List Value).toArray below meth c H locs 0 0 (MQ below (q_X8_marks D k o r fr I L ma mr MI mpr mbr mnx mhd mtn tw pR pW pO mk mb po nP nS te li fl sx ho bh A) ([.ref o, .int te, .int li, .int fl, .int sx, .int ho, .int bh] : List Value).toArray s 0 0 A) (F0 m 78 ls []) := by
              intro n14
              induction n14 with
              | zero =>
                intro i14 X14 H locs ls hn14 eX14 hP hD hS hl
                have hi14 : i14 = 5 := by omega
                rw [hi14] at eX14
                refine lv_iload hx hb dX8_marks_78 (lv_at hl 0 rfl) ?_
                refine lv_iconst (v := 5) hx hb dX8_marks_80 ci_5 ?_
                refine lv_icmp_ge (tgt := 119) hx hb dX8_marks_81 (by decide) (fun _ => ?_) (fun c => absurd (xle_t xl_5 rfl (by omega) (by omega)) c)
                refine lv_lconst (v := 0) hx hb dX8_marks_119 cl_0 ?_
                refine lv_lstore (lv' := [(7, .long 0), (0, .ref o), (1, .int te), (2, .int li), (3, .int fl), (4, .int sx), (5, .int ho), (6, .int bh)]) hx hb dX8_marks_120 hl (Nat.le_of_ble_eq_true rfl) rfl (fun ls hl => ?_)
                refine lv_iconst (v := 0) hx hb dX8_marks_122 ci_0 ?_
                refine lv_istore (lv' := [(9, .int 0), (7, .long 0), (0, .ref o), (1, .int te), (2, .int li), (3, .int fl), (4, .int sx), (5, .int ho), (6, .int bh)]) hx hb dX8_marks_123 hl (Nat.le_of_ble_eq_true rfl) rfl (fun ls hl => ?_)
                have loop33 : ∀ (n33 i33 : Nat) (X33 : (Int64) × (Nat → Int32) × (Nat → Int64) × (Nat → Int64)) (H : Heap) (locs : List Loc) (ls : Array Slot), i33 + n33 = bh.toNatClampNeg + 1 → X33 = itN (f_X8_marks_l125 MI mpr mbr mnx mhd mtn pR pW pO po nP nS ho) i33 (0, u13, X14.1, X14.2) → va_P D vwCl [(o, eMM r (.ref ma) fr (upd I 0 0) L), (ma, eMI mr MI), ((mr 11), aI k 6 mpr), ((mr 12), aI k 5 mbr), ((mr 13), aI k 5 mnx), ((mr 14), aI k 4 mhd), ((mr 15), aI k 20 mtn), ((r 17), aI k 37 X33.2.1), ((r 20), aI k 12 pR), ((r 21), aI k 12 pW), ((r 22), aI k 12 pO), ((r 35), aL k 5 X33.2.2.1), ((r 36), aL k 5 X33.2.2.2)] H → va_D A [(o, eMM r (.ref ma) fr (upd I 0 0) L), (ma, eMI mr MI), ((mr 11), aI k 6 mpr), ((mr 12), aI k 5 mbr), ((mr 13), aI k 5 mnx), ((mr 14), aI k 4 mhd), ((mr 15), aI k 20 mtn), ((r 17), aI k 37 X33.2.1), ((r 20), aI k 12 pR), ((r 21), aI k 12 pW), ((r 22), aI k 12 pO), ((r 35), aL k 5 X33.2.2.1), ((r 36), aL k 5 X33.2.2.2)] → va_S A s.heap H locs → lv_has ls 10 [(9, .int (nI i33)), (7, .long X33.1), (0, .ref o), (1, .int te), (2, .int li), (3, .int fl), (4, .int sx), (5, .int ho), (6, .int bh)] → W p l e rm_X8_marks s m ([.ref o, .int te, .int li, .int fl, .int sx, .int ho, .int bh] : List Value).toArray below meth c H locs 0 0 (MQ below (q_X8_marks D k o r fr I L ma mr MI mpr mbr mnx mhd mtn tw pR pW pO mk mb po nP nS te li fl sx ho bh A) ([.ref o, .int te, .int li, .int fl, .int sx, .int ho, .int bh] : List Value).toArray s 0 0 A) (F0 m 125 ls []) := by
                  intro n33
                  induction n33 with
                  | zero =>
                    intro i33 X33 H locs ls hn33 eX33 hP hD hS hl
                    have hi33 : i33 = bh.toNatClampNeg + 1 := by omega
                    rw [hi33] at eX33
                    refine lv_iload hx hb dX8_marks_125 (lv_at hl 0 rfl) ?_
                    refine lv_iload hx hb dX8_marks_127 (lv_at hl 8 rfl) ?_
                    refine lv_icmp_gt (tgt := 164) hx hb dX8_marks_129 (by decide) (fun _ => ?_) (fun c => absurd (xlt_t hn_bh rfl (by omega) (by omega)) c)
                    refine lv_aload_n hx hb dX8_marks_164 rfl (lv_at hl 2 rfl) ?_
                    refine lv_lload hx hb dX8_marks_165 (lv_at hl 1 rfl) ?_
                    refine lv_l2i hx hb dX8_marks_167 rfl ?_
                    refine xc_i (wc := [(o, eMM r (.ref ma) fr (upd I 0 0) L)]) (wr := [(ma, eMI mr MI), ((mr 11), aI k 6 mpr), ((mr 12), aI k 5 mbr), ((mr 13), aI k 5 mnx), ((mr 14), aI k 4 mhd), ((mr 15), aI k 20 mtn), ((r 17), aI k 37 X33.2.1), ((r 20), aI k 12 pR), ((r 21), aI k 12 pW), ((r 22), aI k 12 pO), ((r 35), aL k 5 X33.2.2.1), ((r 36), aL k 5 X33.2.2.2)]) hP hD hS hA [0] [1, 2, 3, 4, 5, 6, 7, 8, 9, 10, 11, 12] rfl rfl rfl (by decide) (xrV ⟨hx, hb, hml, hown, hts⟩ hg (m_X8_done l D k _ o r (.ref ma) fr (upd I 0 0) L (X33.1.toInt32)) hP hD [0] rfl rfl trivial (ci := 10) (q0 := 0) rfl rfl rfl q1482 q1484 qs60 q93 q1485 xo_X8_done ⟨rfl, rfl⟩ ⟨Nat.le_of_ble_eq_true rfl, Nat.le_of_ble_eq_true rfl⟩ hl.1 (Nat.le_of_ble_eq_true rfl) dX8_marks_168 ⟨Nat.le_of_ble_eq_true rfl, Nat.le_of_ble_eq_true rfl⟩ rfl) (fun r_ u67 H locs hw hP hD hS hk => ?_)
                    obtain ⟨rfl, eu67⟩ := hw
                    replace hP : va_P D vwCl [(o, eMM r (.ref ma) fr (upd (upd (upd I 0 0) 1 u67.2.1) 2 u67.2.2) L), (ma, eMI mr MI), ((mr 11), aI k 6 mpr), ((mr 12), aI k 5 mbr), ((mr 13), aI k 5 mnx), ((mr 14), aI k 4 mhd), ((mr 15), aI k 20 mtn), ((r 17), aI k 37 X33.2.1), ((r 20), aI k 12 pR), ((r 21), aI k 12 pW), ((r 22), aI k 12 pO), ((r 35), aL k 5 X33.2.2.1), ((r 36), aL k 5 X33.2.2.2)] H := hP.sub [12, 0, 1, 2, 3, 4, 5, 6, 7, 8, 9, 10, 11] rfl
                    replace hD : va_D A [(o, eMM r (.ref ma) fr (upd (upd (upd I 0 0) 1 u67.2.1) 2 u67.2.2) L), (ma, eMI mr MI), ((mr 11), aI k 6 mpr), ((mr 12), aI k 5 mbr), ((mr 13), aI k 5 mnx), ((mr 14), aI k 4 mhd), ((mr 15), aI k 20 mtn), ((r 17), aI k 37 X33.2.1), ((r 20), aI k 12 pR), ((r 21), aI k 12 pW), ((r 22), aI k 12 pO), ((r 35), aL k 5 X33.2.2.1), ((r 36), aL k 5 X33.2.2.2)] := hD.sub [12, 0, 1, 2, 3, 4, 5, 6, 7, 8, 9, 10, 11] (by decide) rfl
                    exact xret_i hx hb hr hlocks (Nat.le_of_ble_eq_true rfl) (Nat.le_of_ble_eq_true rfl) hS.2.2 dX8_marks_171 (fun t ht => ⟨⟨u67.1, (u67.1, 0, u67.2.1, u67.2.2, X33.2.1, X33.2.2.1, X33.2.2.2), rfl, ⟨rfl, (by subst eu67; subst eX33; subst eX14; subst eu13; subst eu9; subst eu7; subst eu4; subst eu1; exact Eq.symm (Eq.trans (if_neg c2) (Eq.trans (if_neg c5) (Eq.trans (if_neg c8) (Eq.trans (if_neg c10) (Eq.trans (if_pos c12) (rfl)))))))⟩, by rw [ht]; exact hP, hD⟩, hS.F ht⟩)
                  | succ n33 ih33 =>
                    intro i33 X33 H locs ls hn33 eX33 hP hD hS hl
                    have hi33 : i33 < bh.toNatClampNeg + 1 := by omega
                    refine lv_iload hx hb dX8_marks_125 (lv_at hl 0 rfl) ?_
                    refine lv_iload hx hb dX8_marks_127 (lv_at hl 8 rfl) ?_
                    refine lv_icmp_gt (tgt := 164) hx hb dX8_marks_129 (by decide) (fun c => absurd c (xlt_f hn_bh rfl (by omega) (by omega))) (fun _ => ?_)
                    refine lv_aload_n hx hb dX8_marks_132 rfl (lv_at hl 2 rfl) ?_
                    refine lv_aload_n hx hb dX8_marks_133 rfl (lv_at hl 2 rfl) ?_
                    refine va_get (D := D) (ci := 10) (v := .ref (r 17)) (C := RX8) (T := TX8) (N := 37) hx hb hts in_X8 hown hg.1 hP 0 rfl rfl 17 (Nat.le_of_ble_eq_true rfl) (hts _ q1158) (fun _ h9 => h9) rfl dX8_marks_134 ?_
                    refine lv_iload hx hb dX8_marks_137 (lv_at hl 0 rfl) ?_
                    refine xc_v (wc := [(o, eMM r (.ref ma) fr (upd I 0 0) L), (ma, eMI mr MI), ((mr 11), aI k 6 mpr), ((mr 12), aI k 5 mbr), ((mr 13), aI k 5 mnx), ((mr 14), aI k 4 mhd), ((mr 15), aI k 20 mtn), ((r 20), aI k 12 pR), ((r 21), aI k 12 pW), ((r 22), aI k 12 pO), ((r 17), aI k 37 X33.2.1)]) (wr := [((r 35), aL k 5 X33.2.2.1), ((r 36), aL k 5 X33.2.2.2)]) hP hD hS hA [0, 1, 2, 3, 4, 5, 6, 8, 9, 10, 7] [11, 12] rfl rfl rfl (by decide) (xrV ⟨hx, hb, hml, hown, hts⟩ hg (m_X8_byProgram l D k _ o r fr (upd I 0 0) L ma mr MI mpr mbr mnx mhd mtn pR pW pO (r 17) X33.2.1 (nI i33) i33 i33 po nP nS hmS hS2 hS5 hpr hP1 hP6 hroom hlife hhd hpo rfl (by first | assumption | omega) (by rw [eX33]; exact itN_inv (P := fun i (Y : Int64 × (Nat → Int32) × (Nat → Int64) × (Nat → Int64)) => Y.2.1 27 = nI i) (N := bh.toNatClampNeg + 1) (by show u13 27 = nI 0; rw [eu13]; exact be_27 hS5) (fun i Y hi hY => by show f_X8_byProgram MI mpr mbr mnx mhd mtn pR pW pO Y.2.1 i i po nP nS 27 = nI (i + 1); rw [by_27 hS5, hY]; exact (nI_succ _).symm) i33 (by omega)) (by first | assumption | omega)) hP hD [0, 1, 2, 3, 4, 5, 6, 8, 9, 10, 7] rfl rfl trivial (ci := 10) (q0 := 0) rfl rfl rfl q1587 q1589 qs75 q93 q1590 xo_X8_byProgram ⟨rfl, rfl⟩ ⟨Nat.le_of_ble_eq_true rfl, Nat.le_of_ble_eq_true rfl⟩ hl.1 (Nat.le_of_ble_eq_true rfl) dX8_marks_139 ⟨Nat.le_of_ble_eq_true rfl, Nat.le_of_ble_eq_true rfl⟩ rfl) (fun u68 H locs hw hP hD hS hk => ?_)
                    have eu68 := hw
                    replace hP : va_P D vwCl [(o, eMM r (.ref ma) fr (upd I 0 0) L), (ma, eMI mr MI), ((mr 11), aI k 6 mpr), ((mr 12), aI k 5 mbr), ((mr 13), aI k 5 mnx), ((mr 14), aI k 4 mhd), ((mr 15), aI k 20 mtn), ((r 17), aI k 37 u68), ((r 20), aI k 12 pR), ((r 21), aI k 12 pW), ((r 22), aI k 12 pO), ((r 35), aL k 5 X33.2.2.1), ((r 36), aL k 5 X33.2.2.2)] H := hP.sub [2, 3, 4, 5, 6, 7, 8, 12, 9, 10, 11, 0, 1] rfl
                    replace hD : va_D A [(o, eMM r (.ref ma) fr (upd I 0 0) L), (ma, eMI mr MI), ((mr 11), aI k 6 mpr), ((mr 12), aI k 5 mbr), ((mr 13), aI k 5 mnx), ((mr 14), aI k 4 mhd), ((mr 15), aI k 20 mtn), ((r 17), aI k 37 u68), ((r 20), aI k 12 pR), ((r 21), aI k 12 pW), ((r 22), aI k 12 pO), ((r 35), aL k 5 X33.2.2.1), ((r 36), aL k 5 X33.2.2.2)] := hD.sub [2, 3, 4, 5, 6, 7, 8, 12, 9, 10, 11, 0, 1] (by decide) rfl
                    refine lv_iload hx hb dX8_marks_142 (lv_at hl 0 rfl) ?_
                    refine lv_iload hx hb dX8_marks_144 (lv_at hl 7 rfl) ?_
                    have Jn7 : ∀ (v75 : (Int64) × (Nat → Int64) × (Nat → Int64)) (H : Heap) (locs : List Loc) (ls : Array Slot), v75 = f_X8_marks_j7 MI mbr mnx nS ho X33 i33 u68 → va_P D vwCl [(o, eMM r (.ref ma) fr (upd I 0 0) L), (ma, eMI mr MI), ((mr 11), aI k 6 mpr), ((mr 12), aI k 5 mbr), ((mr 13), aI k 5 mnx), ((mr 14), aI k 4 mhd), ((mr 15), aI k 20 mtn), ((r 17), aI k 37 u68), ((r 20), aI k 12 pR), ((r 21), aI k 12 pW), ((r 22), aI k 12 pO), ((r 35), aL k 5 v75.2.1), ((r 36), aL k 5 v75.2.2)] H → va_D A [(o, eMM r (.ref ma) fr (upd I 0 0) L), (ma, eMI mr MI), ((mr 11), aI k 6 mpr), ((mr 12), aI k 5 mbr), ((mr 13), aI k 5 mnx), ((mr 14), aI k 4 mhd), ((mr 15), aI k 20 mtn), ((r 17), aI k 37 u68), ((r 20), aI k 12 pR), ((r 21), aI k 12 pW), ((r 22), aI k 12 pO), ((r 35), aL k 5 v75.2.1), ((r 36), aL k 5 v75.2.2)] → va_S A s.heap H locs → lv_has ls 10 [(9, .int (nI i33)), (7, .long v75.1), (0, .ref o), (1, .int te), (2, .int li), (3, .int fl), (4, .int sx), (5, .int ho), (6, .int bh)] → W p l e rm_X8_marks s m ([.ref o, .int te, .int li, .int fl, .int sx, .int ho, .int bh] : List Value).toArray below meth c H locs 0 0 (MQ below (q_X8_marks D k o r fr I L ma mr MI mpr mbr mnx mhd mtn tw pR pW pO mk mb po nP nS te li fl sx ho bh A) ([.ref o, .int te, .int li, .int fl, .int sx, .int ho, .int bh] : List Value).toArray s 0 0 A) (F0 m 158 ls []) := by
                      intro v75 H locs ls ev75 hP hD hS hl
                      refine lv_iinc (v := (nI (i33 + 1))) (lv' := [(9, .int (nI (i33 + 1))), (7, .long v75.1), (0, .ref o), (1, .int te), (2, .int li), (3, .int fl), (4, .int sx), (5, .int ho), (6, .int bh)]) hx hb dX8_marks_158 hl (k := 0) rfl (xinc1 _) (Nat.le_of_ble_eq_true rfl) rfl (fun ls hl => ?_)
                      refine lv_goto (tgt := 125) hx hb dX8_marks_161 (by decide) ?_
                      exact ih33 (i33 + 1) (v75.1, u68, v75.2.1, v75.2.2) _ _ _ (by omega) (Eq.trans (by subst ev75; subst eu68; exact rfl) (congrArg (f_X8_marks_l125 MI mpr mbr mnx mhd mtn pR pW pO po nP nS ho i33) eX33)) hP hD hS (lv_sub hl [0, 1, 2, 3, 4, 5, 6, 7, 8] rfl)
                    refine lv_icmp_lt (tgt := 158) hx hb dX8_marks_146 (by decide) (fun c76 => ?_) (fun c76 => ?_)
                    · exact Jn7 (X33.1, X33.2.2.1, X33.2.2.2) _ _ _ (by exact Eq.symm (Eq.trans (if_pos c76) (rfl))) hP hD hS (lv_sub hl [0, 1, 2, 3, 4, 5, 6, 7, 8] rfl)
                    · refine lv_lload hx hb dX8_marks_149 (lv_at hl 1 rfl) ?_
                      refine lv_aload_n hx hb dX8_marks_151 rfl (lv_at hl 2 rfl) ?_
                      refine xc_l (wc := [(o, eMM r (.ref ma) fr (upd I 0 0) L), (ma, eMI mr MI), ((mr 12), aI k 5 mbr), ((mr 13), aI k 5 mnx), ((r 17), aI k 37 u68), ((r 35), aL k 5 X33.2.2.1), ((r 36), aL k 5 X33.2.2.2)]) (wr := [((mr 11), aI k 6 mpr), ((mr 14), aI k 4 mhd), ((mr 15), aI k 20 mtn), ((r 20), aI k 12 pR), ((r 21), aI k 12 pW), ((r 22), aI k 12 pO)]) hP hD hS hA [0, 1, 3, 4, 7, 11, 12] [2, 5, 6, 8, 9, 10] rfl rfl rfl (by decide) (xrV ⟨hx, hb, hml, hown, hts⟩ hg (m_X8_leads l D k _ o r fr (upd I 0 0) L ma mr MI mbr mnx u68 X33.2.2.1 X33.2.2.2 nS hmS hS2 hS5) hP hD [0, 1, 3, 4, 7, 11, 12] rfl rfl trivial (ci := 10) (q0 := 0) rfl rfl rfl q1676 q1678 qs81 q93 q1679 xo_X8_leads ⟨rfl, rfl⟩ ⟨Nat.le_of_ble_eq_true rfl, Nat.le_of_ble_eq_true rfl⟩ hl.1 (Nat.le_of_ble_eq_true rfl) dX8_marks_152 ⟨Nat.le_of_ble_eq_true rfl, Nat.le_of_ble_eq_true rfl⟩ rfl) (fun r_ u77 H locs hw hP hD hS hk => ?_)
                      obtain ⟨rfl, eu77⟩ := hw
                      replace hP : va_P D vwCl [(o, eMM r (.ref ma) fr (upd I 0 0) L), (ma, eMI mr MI), ((mr 11), aI k 6 mpr), ((mr 12), aI k 5 mbr), ((mr 13), aI k 5 mnx), ((mr 14), aI k 4 mhd), ((mr 15), aI k 20 mtn), ((r 17), aI k 37 u68), ((r 20), aI k 12 pR), ((r 21), aI k 12 pW), ((r 22), aI k 12 pO), ((r 35), aL k 5 u77.2.1), ((r 36), aL k 5 u77.2.2)] H := hP.sub [6, 7, 0, 8, 9, 1, 2, 10, 3, 4, 5, 11, 12] rfl
                      replace hD : va_D A [(o, eMM r (.ref ma) fr (upd I 0 0) L), (ma, eMI mr MI), ((mr 11), aI k 6 mpr), ((mr 12), aI k 5 mbr), ((mr 13), aI k 5 mnx), ((mr 14), aI k 4 mhd), ((mr 15), aI k 20 mtn), ((r 17), aI k 37 u68), ((r 20), aI k 12 pR), ((r 21), aI k 12 pW), ((r 22), aI k 12 pO), ((r 35), aL k 5 u77.2.1), ((r 36), aL k 5 u77.2.2)] := hD.sub [6, 7, 0, 8, 9, 1, 2, 10, 3, 4, 5, 11, 12] (by decide) rfl
                      refine lv_ladd hx hb dX8_marks_155 ?_
                      refine lv_topl (fun x78 ex78 => ?_)
                      refine lv_lstore (lv' := [(7, .long x78), (9, .int (nI i33)), (0, .ref o), (1, .int te), (2, .int li), (3, .int fl), (4, .int sx), (5, .int ho), (6, .int bh)]) hx hb dX8_marks_156 hl (Nat.le_of_ble_eq_true rfl) rfl (fun ls hl => ?_)
                      exact Jn7 (x78, u77.2.1, u77.2.2) _ _ _ (by subst ex78; subst eu77; exact Eq.symm (Eq.trans (if_neg c76) (rfl))) hP hD hS (lv_sub hl [1, 0, 2, 3, 4, 5, 6, 7, 8] rfl)
                exact loop33 (bh.toNatClampNeg + 1) 0 (0, u13, X14.1, X14.2) _ _ _ (by omega) rfl hP hD hS (by have h := (lv_sub hl [0, 1, 2, 3, 4, 5, 6, 7, 8] rfl); exact h)
              | succ n14 ih14 =>
                intro i14 X14 H locs ls hn14 eX14 hP hD hS hl
                have hi14 : i14 < 5 := by omega
                refine lv_iload hx hb dX8_marks_78 (lv_at hl 0 rfl) ?_
                refine lv_iconst (v := 5) hx hb dX8_marks_80 ci_5 ?_
                refine lv_icmp_ge (tgt := 119) hx hb dX8_marks_81 (by decide) (fun c => absurd c (xle_f xl_5 rfl (by omega) (by omega))) (fun _ => ?_)
                refine lv_aload_n hx hb dX8_marks_84 rfl (lv_at hl 1 rfl) ?_
                refine va_get (D := D) (ci := 10) (v := .ref (r 35)) (C := RX8) (T := TX8) (N := 37) hx hb hts in_X8 hown hg.1 hP 0 rfl rfl 35 (Nat.le_of_ble_eq_true rfl) (hts _ q1176) (fun _ h9 => h9) rfl dX8_marks_85 ?_
                refine lv_iload hx hb dX8_marks_88 (lv_at hl 0 rfl) ?_
                refine lv_iload hx hb dX8_marks_90 (lv_at hl 0 rfl) ?_
                refine lv_iload hx hb dX8_marks_92 (lv_at hl 5 rfl) ?_
                have Jn8 : ∀ (v81 : (Int64)) (H : Heap) (locs : List Loc) (ls : Array Slot), v81 = f_X8_marks_j8 sx i14 → va_P D vwCl [(o, eMM r (.ref ma) fr (upd I 0 0) L), (ma, eMI mr MI), ((mr 11), aI k 6 mpr), ((mr 12), aI k 5 mbr), ((mr 13), aI k 5 mnx), ((mr 14), aI k 4 mhd), ((mr 15), aI k 20 mtn), ((r 17), aI k 37 u13), ((r 20), aI k 12 pR), ((r 21), aI k 12 pW), ((r 22), aI k 12 pO), ((r 35), aL k 5 X14.1), ((r 36), aL k 5 X14.2)] H → va_D A [(o, eMM r (.ref ma) fr (upd I 0 0) L), (ma, eMI mr MI), ((mr 11), aI k 6 mpr), ((mr 12), aI k 5 mbr), ((mr 13), aI k 5 mnx), ((mr 14), aI k 4 mhd), ((mr 15), aI k 20 mtn), ((r 17), aI k 37 u13), ((r 20), aI k 12 pR), ((r 21), aI k 12 pW), ((r 22), aI k 12 pO), ((r 35), aL k 5 X14.1), ((r 36), aL k 5 X14.2)] → va_S A s.heap H locs → lv_has ls 10 [(7, .int (nI i14)), (0, .ref o), (1, .int te), (2, .int li), (3, .int fl), (4, .int sx), (5, .int ho), (6, .int bh)] → W p l e rm_X8_marks s m ([.ref o, .int te, .int li, .int fl, .int sx, .int ho, .int bh] : List Value).toArray below meth c H locs 0 0 (MQ below (q_X8_marks D k o r fr I L ma mr MI mpr mbr mnx mhd mtn tw pR pW pO mk mb po nP nS te li fl sx ho bh A) ([.ref o, .int te, .int li, .int fl, .int sx, .int ho, .int bh] : List Value).toArray s 0 0 A) (F0 m 104 ls [.long v81, .int (nI i14), .ref (r 35)]) := by
                  intro v81 H locs ls ev81 hP hD hS hl
                  refine xa_last hx hb hg hP hD hS 11 rfl rfl (by omega) (by omega) dX8_marks_104 (fun f82 H locs ef82 hP hD hS => ?_)
                  replace hP : va_P D vwCl [(o, eMM r (.ref ma) fr (upd I 0 0) L), (ma, eMI mr MI), ((mr 11), aI k 6 mpr), ((mr 12), aI k 5 mbr), ((mr 13), aI k 5 mnx), ((mr 14), aI k 4 mhd), ((mr 15), aI k 20 mtn), ((r 17), aI k 37 u13), ((r 20), aI k 12 pR), ((r 21), aI k 12 pW), ((r 22), aI k 12 pO), ((r 35), aL k 5 f82), ((r 36), aL k 5 X14.2)] H := hP
                  replace hD : va_D A [(o, eMM r (.ref ma) fr (upd I 0 0) L), (ma, eMI mr MI), ((mr 11), aI k 6 mpr), ((mr 12), aI k 5 mbr), ((mr 13), aI k 5 mnx), ((mr 14), aI k 4 mhd), ((mr 15), aI k 20 mtn), ((r 17), aI k 37 u13), ((r 20), aI k 12 pR), ((r 21), aI k 12 pW), ((r 22), aI k 12 pO), ((r 35), aL k 5 f82), ((r 36), aL k 5 X14.2)] := hD
                  refine lv_aload_n hx hb dX8_marks_105 rfl (lv_at hl 1 rfl) ?_
                  refine va_get (D := D) (ci := 10) (v := .ref (r 36)) (C := RX8) (T := TX8) (N := 37) hx hb hts in_X8 hown hg.1 hP 0 rfl rfl 36 (Nat.le_of_ble_eq_true rfl) (hts _ q1177) (fun _ h9 => h9) rfl dX8_marks_106 ?_
                  refine lv_iload hx hb dX8_marks_109 (lv_at hl 0 rfl) ?_
                  refine lv_lconst (v := 0) hx hb dX8_marks_111 cl_0 ?_
                  refine xa_last hx hb hg hP hD hS 12 rfl rfl (by omega) (by omega) dX8_marks_112 (fun f83 H locs ef83 hP hD hS => ?_)
                  replace hP : va_P D vwCl [(o, eMM r (.ref ma) fr (upd I 0 0) L), (ma, eMI mr MI), ((mr 11), aI k 6 mpr), ((mr 12), aI k 5 mbr), ((mr 13), aI k 5 mnx), ((mr 14), aI k 4 mhd), ((mr 15), aI k 20 mtn), ((r 17), aI k 37 u13), ((r 20), aI k 12 pR), ((r 21), aI k 12 pW), ((r 22), aI k 12 pO), ((r 35), aL k 5 f82), ((r 36), aL k 5 f83)] H := hP
                  replace hD : va_D A [(o, eMM r (.ref ma) fr (upd I 0 0) L), (ma, eMI mr MI), ((mr 11), aI k 6 mpr), ((mr 12), aI k 5 mbr), ((mr 13), aI k 5 mnx), ((mr 14), aI k 4 mhd), ((mr 15), aI k 20 mtn), ((r 17), aI k 37 u13), ((r 20), aI k 12 pR), ((r 21), aI k 12 pW), ((r 22), aI k 12 pO), ((r 35), aL k 5 f82), ((r 36), aL k 5 f83)] := hD
                  refine lv_iinc (v := (nI (i14 + 1))) (lv' := [(7, .int (nI (i14 + 1))), (0, .ref o), (1, .int te), (2, .int li), (3, .int fl), (4, .int sx), (5, .int ho), (6, .int bh)]) hx hb dX8_marks_113 hl (k := 0) rfl (xinc1 _) (Nat.le_of_ble_eq_true rfl) rfl (fun ls hl => ?_)
                  refine lv_goto (tgt := 78) hx hb dX8_marks_116 (by decide) ?_
                  exact ih14 (i14 + 1) (f82, f83) _ _ _ (by omega) (Eq.trans (by subst ef83; subst ef82; subst ev81; exact rfl) (congrArg (f_X8_marks_l78 sx i14) eX14)) hP hD hS (lv_sub hl [0, 1, 2, 3, 4, 5, 6, 7] rfl)
                refine lv_icmp_ne (tgt := 103) hx hb dX8_marks_94 (by decide) (fun c84 => ?_) (fun c84 => ?_)
                · refine lv_lconst (v := 0) hx hb dX8_marks_103 cl_0 ?_
                  exact Jn8 0 _ _ _ (by exact Eq.symm (Eq.trans (if_neg c84) (rfl))) hP hD hS (lv_sub hl [0, 1, 2, 3, 4, 5, 6, 7] rfl)
                · refine lv_ldc2 hx hb hown (hts _ q1675) dX8_marks_97 ?_
                  refine lv_goto (tgt := 104) hx hb dX8_marks_100 (by decide) ?_
                  exact Jn8 1000000 _ _ _ (by exact Eq.symm (Eq.trans (if_pos c84) (rfl))) hP hD hS (lv_sub hl [0, 1, 2, 3, 4, 5, 6, 7] rfl)
            exact loop14 5 0 (mk, mb) _ _ _ (by omega) rfl hP hD hS (by have h := (lv_sub hl [0, 1, 2, 3, 4, 5, 6, 7] rfl); exact h)
          · refine lv_aload_n hx hb dX8_marks_58 rfl (lv_at hl 0 rfl) ?_
            refine lv_iconst (v := 2) hx hb dX8_marks_59 ci_2 ?_
            refine xc_i (wc := [(o, eMM r (.ref ma) fr (upd I 0 0) L)]) (wr := [(ma, eMI mr MI), ((mr 11), aI k 6 mpr), ((mr 12), aI k 5 mbr), ((mr 13), aI k 5 mnx), ((mr 14), aI k 4 mhd), ((mr 15), aI k 20 mtn), ((r 17), aI k 37 tw), ((r 20), aI k 12 pR), ((r 21), aI k 12 pW), ((r 22), aI k 12 pO), ((r 35), aL k 5 mk), ((r 36), aL k 5 mb)]) hP hD hS hA [0] [1, 2, 3, 4, 5, 6, 7, 8, 9, 10, 11, 12] rfl rfl rfl (by decide) (xrV ⟨hx, hb, hml, hown, hts⟩ hg (m_X8_refused l D k _ o r (.ref ma) fr (upd I 0 0) L 2) hP hD [0] rfl rfl trivial (ci := 10) (q0 := 0) rfl rfl rfl q1265 q1267 qs39 q93 q1268 xo_X8_refused ⟨rfl, rfl⟩ ⟨Nat.le_of_ble_eq_true rfl, Nat.le_of_ble_eq_true rfl⟩ hl.1 (Nat.le_of_ble_eq_true rfl) dX8_marks_60 ⟨Nat.le_of_ble_eq_true rfl, Nat.le_of_ble_eq_true rfl⟩ rfl) (fun r_ u85 H locs hw hP hD hS hk => ?_)
            obtain ⟨rfl, eu85⟩ := hw
            replace hP : va_P D vwCl [(o, eMM r (.ref ma) fr (upd (upd (upd I 0 0) 1 u85.2.1) 2 u85.2.2) L), (ma, eMI mr MI), ((mr 11), aI k 6 mpr), ((mr 12), aI k 5 mbr), ((mr 13), aI k 5 mnx), ((mr 14), aI k 4 mhd), ((mr 15), aI k 20 mtn), ((r 17), aI k 37 tw), ((r 20), aI k 12 pR), ((r 21), aI k 12 pW), ((r 22), aI k 12 pO), ((r 35), aL k 5 mk), ((r 36), aL k 5 mb)] H := hP.sub [12, 0, 1, 2, 3, 4, 5, 6, 7, 8, 9, 10, 11] rfl
            replace hD : va_D A [(o, eMM r (.ref ma) fr (upd (upd (upd I 0 0) 1 u85.2.1) 2 u85.2.2) L), (ma, eMI mr MI), ((mr 11), aI k 6 mpr), ((mr 12), aI k 5 mbr), ((mr 13), aI k 5 mnx), ((mr 14), aI k 4 mhd), ((mr 15), aI k 20 mtn), ((r 17), aI k 37 tw), ((r 20), aI k 12 pR), ((r 21), aI k 12 pW), ((r 22), aI k 12 pO), ((r 35), aL k 5 mk), ((r 36), aL k 5 mb)] := hD.sub [12, 0, 1, 2, 3, 4, 5, 6, 7, 8, 9, 10, 11] (by decide) rfl
            exact xret_i hx hb hr hlocks (Nat.le_of_ble_eq_true rfl) (Nat.le_of_ble_eq_true rfl) hS.2.2 dX8_marks_63 (fun t ht => ⟨⟨u85.1, (u85.1, 0, u85.2.1, u85.2.2, tw, mk, mb), rfl, ⟨rfl, (by subst eu85; subst eu9; subst eu7; subst eu4; subst eu1; exact Eq.symm (Eq.trans (if_neg c2) (Eq.trans (if_neg c5) (Eq.trans (if_neg c8) (Eq.trans (if_neg c10) (Eq.trans (if_neg c12) (rfl)))))))⟩, by rw [ht]; exact hP, hD⟩, hS.F ht⟩)
      · refine lv_aload_n hx hb dX8_marks_36 rfl (lv_at hl 0 rfl) ?_
        refine lv_iconst (v := 1) hx hb dX8_marks_37 ci_1 ?_
        refine xc_i (wc := [(o, eMM r (.ref ma) fr (upd I 0 0) L)]) (wr := [(ma, eMI mr MI), ((mr 11), aI k 6 mpr), ((mr 12), aI k 5 mbr), ((mr 13), aI k 5 mnx), ((mr 14), aI k 4 mhd), ((mr 15), aI k 20 mtn), ((r 17), aI k 37 tw), ((r 20), aI k 12 pR), ((r 21), aI k 12 pW), ((r 22), aI k 12 pO), ((r 35), aL k 5 mk), ((r 36), aL k 5 mb)]) hP hD hS hA [0] [1, 2, 3, 4, 5, 6, 7, 8, 9, 10, 11, 12] rfl rfl rfl (by decide) (xrV ⟨hx, hb, hml, hown, hts⟩ hg (m_X8_refused l D k _ o r (.ref ma) fr (upd I 0 0) L 1) hP hD [0] rfl rfl trivial (ci := 10) (q0 := 0) rfl rfl rfl q1265 q1267 qs39 q93 q1268 xo_X8_refused ⟨rfl, rfl⟩ ⟨Nat.le_of_ble_eq_true rfl, Nat.le_of_ble_eq_true rfl⟩ hl.1 (Nat.le_of_ble_eq_true rfl) dX8_marks_38 ⟨Nat.le_of_ble_eq_true rfl, Nat.le_of_ble_eq_true rfl⟩ rfl) (fun r_ u86 H locs hw hP hD hS hk => ?_)
        obtain ⟨rfl, eu86⟩ := hw
        replace hP : va_P D vwCl [(o, eMM r (.ref ma) fr (upd (upd (upd I 0 0) 1 u86.2.1) 2 u86.2.2) L), (ma, eMI mr MI), ((mr 11), aI k 6 mpr), ((mr 12), aI k 5 mbr), ((mr 13), aI k 5 mnx), ((mr 14), aI k 4 mhd), ((mr 15), aI k 20 mtn), ((r 17), aI k 37 tw), ((r 20), aI k 12 pR), ((r 21), aI k 12 pW), ((r 22), aI k 12 pO), ((r 35), aL k 5 mk), ((r 36), aL k 5 mb)] H := hP.sub [12, 0, 1, 2, 3, 4, 5, 6, 7, 8, 9, 10, 11] rfl
        replace hD : va_D A [(o, eMM r (.ref ma) fr (upd (upd (upd I 0 0) 1 u86.2.1) 2 u86.2.2) L), (ma, eMI mr MI), ((mr 11), aI k 6 mpr), ((mr 12), aI k 5 mbr), ((mr 13), aI k 5 mnx), ((mr 14), aI k 4 mhd), ((mr 15), aI k 20 mtn), ((r 17), aI k 37 tw), ((r 20), aI k 12 pR), ((r 21), aI k 12 pW), ((r 22), aI k 12 pO), ((r 35), aL k 5 mk), ((r 36), aL k 5 mb)] := hD.sub [12, 0, 1, 2, 3, 4, 5, 6, 7, 8, 9, 10, 11] (by decide) rfl
        exact xret_i hx hb hr hlocks (Nat.le_of_ble_eq_true rfl) (Nat.le_of_ble_eq_true rfl) hS.2.2 dX8_marks_41 (fun t ht => ⟨⟨u86.1, (u86.1, 0, u86.2.1, u86.2.2, tw, mk, mb), rfl, ⟨rfl, (by subst eu86; subst eu7; subst eu4; subst eu1; exact Eq.symm (Eq.trans (if_neg c2) (Eq.trans (if_neg c5) (Eq.trans (if_pos c8) (rfl)))))⟩, by rw [ht]; exact hP, hD⟩, hS.F ht⟩)

def f_X8_marksN  : Int32 × Int32 × Int32 × Int32 :=
  let u1 := f_X8_isSizeN
  let u2 := f_X8_refused 1
  (u2.1, 0, u2.2.1, u2.2.2)
abbrev q_X8_marksN (D : va_G) (k : KK) (o : Nat) (r : Nat → Nat) (fr : Value) (I : Nat → Int32) (L : Nat → Int64) (te : Int32) (li : Int32) (fl : Int32) (sx : Int32) (ho : Int32) (bh : Int32) (A : Nat → Prop) : Array Value → State → Outcome → State → Prop := va_Qi (fun (r_ : Int32) (u : Int32 × Int32 × Int32 × Int32) => r_ = u.1 ∧ u = f_X8_marksN) (bx D (fun u => [(o, eMM r .null fr (upd (upd (upd I 0 u.2.1) 1 u.2.2.1) 2 u.2.2.2) L)]) A) A
abbrev rm_X8_marksN : Room := { frames := 5, cells := 0, slots := 0, locals := 200 }
set_option maxHeartbeats 8000000 in
theorem m_X8_marksN (l : Launch) (D : va_G) (k : KK) (sz : Nat) (o : Nat) (r : Nat → Nat) (fr : Value) (I : Nat → Int32) (L : Nat → Int64) (te : Int32) (li : Int32) (fl : Int32) (sx : Int32) (ho : Int32) (bh : Int32)  : Met l yX8_marks (ws_ yX8_marks cX8_marks 10 (some .int)) rm_X8_marksN (pcx D k [.ref o, .int te, .int li, .int fl, .int sx, .int ho, .int bh] sz [(o, eMM r .null fr I L)] (fun _ => True)) (q_X8_marksN D k o r fr I L te li fl sx ho bh (va_A [(o, eMM r .null fr I L)] sz)) 0 0 (va_A [(o, eMM r .null fr I L)] sz) := by
  refine Met.start (Qc := q_X8_marksN D k o r fr I L te li fl sx ho bh) (by decide) (Nat.le_of_ble_eq_true rfl) ?_
  intro p e s m below meth c A hx hb hr hlocks hml hown hin hts hg hP hD hA hAn hS hY hsz ls hl
  have hown : s.vm.findClass RX8 = some m.cls := hown
  have hl : lv_has ls 10 [(0, .ref o), (1, .int te), (2, .int li), (3, .int fl), (4, .int sx), (5, .int ho), (6, .int bh)] := hl
  refine lv_aload_n hx hb dX8_marks_0 rfl (lv_at hl 0 rfl) ?_
  refine lv_iconst (v := 0) hx hb dX8_marks_1 ci_0 ?_
  refine va_put (D := D) (ci := 10) (v := .int 0) (C := RX8) (T := TX8) (N := 37) hx hb hts in_X8 tyX8 tyX8_ok nmX8 hown hg.1 hP hD hS 0 rfl rfl 0 (Nat.le_of_ble_eq_true rfl) (hts _ q1141) (fun _ h9 => h9) rfl ftX8_0 rfl rfl (Nat.le_of_ble_eq_true rfl) dX8_marks_2 (fun H locs hP hD hS => ?_)
  replace hP : va_P D vwCl [(o, eMM r .null fr (upd I 0 0) L)] H := hP
  replace hD : va_D A [(o, eMM r .null fr (upd I 0 0) L)] := hD
  refine lv_aload_n hx hb dX8_marks_5 rfl (lv_at hl 0 rfl) ?_
  refine lv_iload hx hb dX8_marks_6 (lv_at hl 4 rfl) ?_
  refine xc_i (wc := [(o, eMM r .null fr (upd I 0 0) L)]) (wr := []) hP hD hS hA [0] [] rfl rfl rfl (by decide) (xrV ⟨hx, hb, hml, hown, hts⟩ hg (m_X8_isSizeN l D k _ o r fr (upd I 0 0) L sx) hP hD [0] rfl rfl trivial (ci := 10) (q0 := 0) rfl rfl rfl q1546 q1548 qs70 q93 q1549 xo_X8_isSize ⟨rfl, rfl⟩ ⟨Nat.le_of_ble_eq_true rfl, Nat.le_of_ble_eq_true rfl⟩ hl.1 (Nat.le_of_ble_eq_true rfl) dX8_marks_8 ⟨Nat.le_of_ble_eq_true rfl, Nat.le_of_ble_eq_true rfl⟩ rfl) (fun u1 r_ H locs hw hP hD hS hk => ?_)
  obtain ⟨rfl, eu1, bu1⟩ := hw
  replace hP : va_P D vwCl [(o, eMM r .null fr (upd I 0 0) L)] H := hP.sub [0] rfl
  replace hD : va_D A [(o, eMM r .null fr (upd I 0 0) L)] := hD.sub [0] (by decide) rfl
  refine lv_if_eq (tgt := 36) hx hb dX8_marks_11 (by decide) (fun _ => ?_) (fun c => absurd ((eu1).trans rfl) c)
  refine lv_aload_n hx hb dX8_marks_36 rfl (lv_at hl 0 rfl) ?_
  refine lv_iconst (v := 1) hx hb dX8_marks_37 ci_1 ?_
  refine xc_i (wc := [(o, eMM r .null fr (upd I 0 0) L)]) (wr := []) hP hD hS hA [0] [] rfl rfl rfl (by decide) (xrV ⟨hx, hb, hml, hown, hts⟩ hg (m_X8_refused l D k _ o r .null fr (upd I 0 0) L 1) hP hD [0] rfl rfl trivial (ci := 10) (q0 := 0) rfl rfl rfl q1265 q1267 qs39 q93 q1268 xo_X8_refused ⟨rfl, rfl⟩ ⟨Nat.le_of_ble_eq_true rfl, Nat.le_of_ble_eq_true rfl⟩ hl.1 (Nat.le_of_ble_eq_true rfl) dX8_marks_38 ⟨Nat.le_of_ble_eq_true rfl, Nat.le_of_ble_eq_true rfl⟩ rfl) (fun r_ u2 H locs hw hP hD hS hk => ?_)
  obtain ⟨rfl, eu2⟩ := hw
  replace hP : va_P D vwCl [(o, eMM r .null fr (upd (upd (upd I 0 0) 1 u2.2.1) 2 u2.2.2) L)] H := hP.sub [0] rfl
  replace hD : va_D A [(o, eMM r .null fr (upd (upd (upd I 0 0) 1 u2.2.1) 2 u2.2.2) L)] := hD.sub [0] (by decide) rfl
  exact xret_i hx hb hr hlocks (Nat.le_of_ble_eq_true rfl) (Nat.le_of_ble_eq_true rfl) hS.2.2 dX8_marks_41 (fun t ht => ⟨⟨u2.1, (u2.1, 0, u2.2.1, u2.2.2), rfl, ⟨rfl, (by subst eu2; subst eu1; exact rfl)⟩, by rw [ht]; exact hP, hD⟩, hS.F ht⟩)

def f_X8_go_j4 (X4 : (Int32) × (Int32) × (Nat → Int32) × (Nat → Int32)) (u57 : (Nat → Int32)) : (Int32) × (Int32) × (Nat → Int32) :=
  if (u57 26) = 0 then
    let x73 := X4.1 + 1
    (x73, X4.2.1, X4.2.2.2)
  else
    let x70 := ((u57 27) - 1)
    let f71 := upd X4.2.2.2 X4.2.1.toNatClampNeg x70
    let x72 := (X4.2.1 + 1)
    (X4.1, x72, f71)
def f_X8_go_l59 (MI : Nat → Int32) (mpr : Nat → Int32) (mbr : Nat → Int32) (mnx : Nat → Int32) (mhd : Nat → Int32) (mtn : Nat → Int32) (ore : Nat) (now : Nat) (nP : Nat) (nS : Nat) (i4 : Nat) (X4 : (Int32) × (Int32) × (Nat → Int32) × (Nat → Int32)) : (Int32) × (Int32) × (Nat → Int32) × (Nat → Int32) :=
  let u57 := f_X8_goes MI mpr mbr mnx mhd mtn X4.2.2.1 ore nP (now + i4) nS
  let v68 := f_X8_go_j4 X4 u57
  (v68.1, v68.2.1, u57, v68.2.2)
def f_X8_go (I : Nat → Int32) (MI : Nat → Int32) (mpr : Nat → Int32) (mbr : Nat → Int32) (mnx : Nat → Int32) (mhd : Nat → Int32) (mtn : Nat → Int32) (sv : Nat → Int32) (sd : Nat → Int32) (x : Int32) (ore : Nat) (now : Nat) (nP : Nat) (nS : Nat) : Int32 × Int32 × Int32 × Int32 × Int32 × (Nat → Int32) × (Nat → Int32) :=
  let u1 := f_X8_in x 1 24
  if u1 = 0 then
    let u75 := f_X8_refused 2
    (u75.1, 0, u75.2.1, u75.2.2, (I 18), sv, sd)
  else
    if ((sv 27) + x) ≤ 240 then
      let X4 := itN (f_X8_go_l59 MI mpr mbr mnx mhd mtn ore now nP nS) x.toNatClampNeg (0, (I 18), sv, sd)
      let u56 := f_X8_done X4.1
      (u56.1, 0, u56.2.1, u56.2.2, X4.2.1, X4.2.2.1, X4.2.2.2)
    else
      let u74 := f_X8_refused 3
      (u74.1, 0, u74.2.1, u74.2.2, (I 18), sv, sd)
abbrev q_X8_go (D : va_G) (k : KK) (o : Nat) (r : Nat → Nat) (fr : Value) (I : Nat → Int32) (L : Nat → Int64) (ma : Nat) (mr : Nat → Nat) (MI : Nat → Int32) (mpr : Nat → Int32) (mbr : Nat → Int32) (mnx : Nat → Int32) (mhd : Nat → Int32) (mtn : Nat → Int32) (sv : Nat → Int32) (sd : Nat → Int32) (x : Int32) (st0 : Nat) (ore : Nat) (now : Nat) (nP : Nat) (nS : Nat) (A : Nat → Prop) : Array Value → State → Outcome → State → Prop := va_Qi (fun (r_ : Int32) (u : Int32 × Int32 × Int32 × Int32 × Int32 × (Nat → Int32) × (Nat → Int32)) => r_ = u.1 ∧ u = f_X8_go I MI mpr mbr mnx mhd mtn sv sd x ore now nP nS) (bx D (fun u => [(o, eMM r (.ref ma) fr (upd (upd (upd (upd I 0 u.2.1) 1 u.2.2.1) 2 u.2.2.2.1) 18 u.2.2.2.2.1) L), (ma, eMI mr MI), ((mr 11), aI k 6 mpr), ((mr 12), aI k 5 mbr), ((mr 13), aI k 5 mnx), ((mr 14), aI k 4 mhd), ((mr 15), aI k 20 mtn), ((r 16), aI k 37 u.2.2.2.2.2.1), ((r 19), aI k 240 u.2.2.2.2.2.2)]) A) A
abbrev rm_X8_go : Room := { frames := 5, cells := 0, slots := 0, locals := 200 }
theorem xo_X8_go : xok yX8_go 1 := by unfold xok; decide +kernel
set_option maxHeartbeats 8000000 in
theorem m_X8_go (l : Launch) (D : va_G) (k : KK) (sz : Nat) (o : Nat) (r : Nat → Nat) (fr : Value) (I : Nat → Int32) (L : Nat → Int64) (ma : Nat) (mr : Nat → Nat) (MI : Nat → Int32) (mpr : Nat → Int32) (mbr : Nat → Int32) (mnx : Nat → Int32) (mhd : Nat → Int32) (mtn : Nat → Int32) (sv : Nat → Int32) (sd : Nat → Int32) (x : Int32) (st0 : Nat) (ore : Nat) (now : Nat) (nP : Nat) (nS : Nat) (hmS : MI 8 = nI nS) (hS2 : 2 ≤ nS) (hS5 : nS ≤ 5) (hpr : MI 7 = nI nP) (hP1 : 1 ≤ nP) (hP6 : nP ≤ 6) (hroom : ¬ MI 0 = 0) (hlife : ¬ MI 4 = 0) (hhd : ∀ j, j < 4 → ¬ 9 + mhd j = 0) (hs36 : sv 36 = nI ore) (hore : ore < 4) (hs27 : sv 27 = nI now) (hnb : now ≤ 240) (hst : I 18 = nI st0) (hst2 : st0 ≤ now) : Met l yX8_go (ws_ yX8_go cX8_go 4 (some .int)) rm_X8_go (pcx D k [.ref o, .int x] sz [(o, eMM r (.ref ma) fr I L), (ma, eMI mr MI), ((mr 11), aI k 6 mpr), ((mr 12), aI k 5 mbr), ((mr 13), aI k 5 mnx), ((mr 14), aI k 4 mhd), ((mr 15), aI k 20 mtn), ((r 16), aI k 37 sv), ((r 19), aI k 240 sd)] (fun _ => True)) (q_X8_go D k o r fr I L ma mr MI mpr mbr mnx mhd mtn sv sd x st0 ore now nP nS (va_A [(o, eMM r (.ref ma) fr I L), (ma, eMI mr MI), ((mr 11), aI k 6 mpr), ((mr 12), aI k 5 mbr), ((mr 13), aI k 5 mnx), ((mr 14), aI k 4 mhd), ((mr 15), aI k 20 mtn), ((r 16), aI k 37 sv), ((r 19), aI k 240 sd)] sz)) 0 0 (va_A [(o, eMM r (.ref ma) fr I L), (ma, eMI mr MI), ((mr 11), aI k 6 mpr), ((mr 12), aI k 5 mbr), ((mr 13), aI k 5 mnx), ((mr 14), aI k 4 mhd), ((mr 15), aI k 20 mtn), ((r 16), aI k 37 sv), ((r 19), aI k 240 sd)] sz) := by
  refine Met.start (Qc := q_X8_go D k o r fr I L ma mr MI mpr mbr mnx mhd mtn sv sd x st0 ore now nP nS) (by decide) (Nat.le_of_ble_eq_true rfl) ?_
  intro p e s m below meth c A hx hb hr hlocks hml hown hin hts hg hP hD hA hAn hS hY hsz ls hl
  have hown : s.vm.findClass RX8 = some m.cls := hown
  have hl : lv_has ls 4 [(0, .ref o), (1, .int x)] := hl
  refine lv_aload_n hx hb dX8_go_0 rfl (lv_at hl 0 rfl) ?_
  refine lv_iconst (v := 0) hx hb dX8_go_1 ci_0 ?_
  refine va_put (D := D) (ci := 10) (v := .int 0) (C := RX8) (T := TX8) (N := 37) hx hb hts in_X8 tyX8 tyX8_ok nmX8 hown hg.1 hP hD hS 0 rfl rfl 0 (Nat.le_of_ble_eq_true rfl) (hts _ q1141) (fun _ h9 => h9) rfl ftX8_0 rfl rfl (Nat.le_of_ble_eq_true rfl) dX8_go_2 (fun H locs hP hD hS => ?_)
  replace hP : va_P D vwCl [(o, eMM r (.ref ma) fr (upd I 0 0) L), (ma, eMI mr MI), ((mr 11), aI k 6 mpr), ((mr 12), aI k 5 mbr), ((mr 13), aI k 5 mnx), ((mr 14), aI k 4 mhd), ((mr 15), aI k 20 mtn), ((r 16), aI k 37 sv), ((r 19), aI k 240 sd)] H := hP
  replace hD : va_D A [(o, eMM r (.ref ma) fr (upd I 0 0) L), (ma, eMI mr MI), ((mr 11), aI k 6 mpr), ((mr 12), aI k 5 mbr), ((mr 13), aI k 5 mnx), ((mr 14), aI k 4 mhd), ((mr 15), aI k 20 mtn), ((r 16), aI k 37 sv), ((r 19), aI k 240 sd)] := hD
  refine lv_aload_n hx hb dX8_go_5 rfl (lv_at hl 0 rfl) ?_
  refine va_get (D := D) (ci := 10) (v := .ref ma) (C := RX8) (T := TX8) (N := 37) hx hb hts in_X8 hown hg.1 hP 0 rfl rfl 3 (Nat.le_of_ble_eq_true rfl) (hts _ q1144) (fun _ h9 => h9) rfl dX8_go_6 ?_
  refine lv_ifnonnull (tgt := 18) hx hb dX8_go_9 (by decide) ?_
  refine lv_iload_n hx hb dX8_go_18 rfl (lv_at hl 1 rfl) ?_
  refine lv_iconst (v := 1) hx hb dX8_go_19 ci_1 ?_
  refine lv_bipush (v := 24) hx hb dX8_go_20 cb_24 ?_
  refine xc_i (wc := []) (wr := [(o, eMM r (.ref ma) fr (upd I 0 0) L), (ma, eMI mr MI), ((mr 11), aI k 6 mpr), ((mr 12), aI k 5 mbr), ((mr 13), aI k 5 mnx), ((mr 14), aI k 4 mhd), ((mr 15), aI k 20 mtn), ((r 16), aI k 37 sv), ((r 19), aI k 240 sd)]) hP hD hS hA [] [0, 1, 2, 3, 4, 5, 6, 7, 8] rfl rfl rfl (by decide) (xrS ⟨hx, hb, hml, hown, hts⟩ hg (m_X8_in l D k _ x 1 24) hP hD [] rfl rfl trivial q1426 q1427 q93 q1428 xo_X8_in ⟨rfl, rfl⟩ ⟨Nat.le_of_ble_eq_true rfl, Nat.le_of_ble_eq_true rfl⟩ hl.1 (Nat.le_of_ble_eq_true rfl) dX8_go_22 ⟨Nat.le_of_ble_eq_true rfl, Nat.le_of_ble_eq_true rfl⟩ rfl) (fun u1 r_ H locs hw hP hD hS hk => ?_)
  obtain ⟨rfl, eu1, bu1⟩ := hw
  replace hP : va_P D vwCl [(o, eMM r (.ref ma) fr (upd I 0 0) L), (ma, eMI mr MI), ((mr 11), aI k 6 mpr), ((mr 12), aI k 5 mbr), ((mr 13), aI k 5 mnx), ((mr 14), aI k 4 mhd), ((mr 15), aI k 20 mtn), ((r 16), aI k 37 sv), ((r 19), aI k 240 sd)] H := hP.sub [0, 1, 2, 3, 4, 5, 6, 7, 8] rfl
  replace hD : va_D A [(o, eMM r (.ref ma) fr (upd I 0 0) L), (ma, eMI mr MI), ((mr 11), aI k 6 mpr), ((mr 12), aI k 5 mbr), ((mr 13), aI k 5 mnx), ((mr 14), aI k 4 mhd), ((mr 15), aI k 20 mtn), ((r 16), aI k 37 sv), ((r 19), aI k 240 sd)] := hD.sub [0, 1, 2, 3, 4, 5, 6, 7, 8] (by decide) rfl
  refine lv_if_ne (tgt := 34) hx hb dX8_go_25 (by decide) (fun c2 => ?_) (fun c2 => ?_)
  · obtain ⟨hn_x, hb_1, hb_24⟩ := m_in124 (fun h => c2 (eu1.trans h))
    refine lv_aload_n hx hb dX8_go_34 rfl (lv_at hl 0 rfl) ?_
    refine va_get (D := D) (ci := 10) (v := .ref (r 16)) (C := RX8) (T := TX8) (N := 37) hx hb hts in_X8 hown hg.1 hP 0 rfl rfl 16 (Nat.le_of_ble_eq_true rfl) (hts _ q1157) (fun _ h9 => h9) rfl dX8_go_35 ?_
    refine lv_bipush (v := 27) hx hb dX8_go_38 cb_27 ?_
    refine xa_iald hx hb hg hP 7 rfl xl_27 (by first | omega | exact Nat.lt_of_lt_of_le (Nat.mod_lt _ (by omega)) (by omega)) (by omega) dX8_go_40 ?_
    refine lv_iload_n hx hb dX8_go_41 rfl (lv_at hl 1 rfl) ?_
    refine lv_iadd hx hb dX8_go_42 ?_
    refine lv_sipush (v := 240) hx hb dX8_go_43 cs_240 ?_
    refine lv_icmp_le (tgt := 55) hx hb dX8_go_46 (by decide) (fun c3 => ?_) (fun c3 => ?_)
    · have hb_240 := m_room hs27 hn_x (by omega) (by omega) c3
      refine lv_iconst (v := 0) hx hb dX8_go_55 ci_0 ?_
      refine lv_istore_n (lv' := [(2, .int 0), (0, .ref o), (1, .int x)]) hx hb dX8_go_56 rfl hl (Nat.le_of_ble_eq_true rfl) rfl (fun ls hl => ?_)
      refine lv_iconst (v := 0) hx hb dX8_go_57 ci_0 ?_
      refine lv_istore_n (lv' := [(3, .int 0), (2, .int 0), (0, .ref o), (1, .int x)]) hx hb dX8_go_58 rfl hl (Nat.le_of_ble_eq_true rfl) rfl (fun ls hl => ?_)
      have loop4 : ∀ (n4 i4 : Nat) (X4 : (Int32) × (Int32) × (Nat → Int32) × (Nat → Int32)) (H : Heap) (locs : List Loc) (ls : Array Slot), i4 + n4 = x.toNatClampNeg → X4 = itN (f_X8_go_l59 MI mpr mbr mnx mhd mtn ore now nP nS) i4 (0, (I 18), sv, sd) → va_P D vwCl [(o, eMM r (.ref ma) fr (upd (upd I 0 0) 18 X4.2.1) L), (ma, eMI mr MI), ((mr 11), aI k 6 mpr), ((mr 12), aI k 5 mbr), ((mr 13), aI k 5 mnx), ((mr 14), aI k 4 mhd), ((mr 15), aI k 20 mtn), ((r 16), aI k 37 X4.2.2.1), ((r 19), aI k 240 X4.2.2.2)] H → va_D A [(o, eMM r (.ref ma) fr (upd (upd I 0 0) 18 X4.2.1) L), (ma, eMI mr MI), ((mr 11), aI k 6 mpr), ((mr 12), aI k 5 mbr), ((mr 13), aI k 5 mnx), ((mr 14), aI k 4 mhd), ((mr 15), aI k 20 mtn), ((r 16), aI k 37 X4.2.2.1), ((r 19), aI k 240 X4.2.2.2)] → va_S A s.heap H locs → lv_has ls 4 [(3, .int (nI i4)), (2, .int X4.1), (0, .ref o), (1, .int x)] → W p l e rm_X8_go s m ([.ref o, .int x] : List Value).toArray below meth c H locs 0 0 (MQ below (q_X8_go D k o r fr I L ma mr MI mpr mbr mnx mhd mtn sv sd x st0 ore now nP nS A) ([.ref o, .int x] : List Value).toArray s 0 0 A) (F0 m 59 ls []) := by
        intro n4
        induction n4 with
        | zero =>
          intro i4 X4 H locs ls hn4 eX4 hP hD hS hl
          have hi4 : i4 = x.toNatClampNeg := by omega
          rw [hi4] at eX4
          refine lv_iload_n hx hb dX8_go_59 rfl (lv_at hl 0 rfl) ?_
          refine lv_iload_n hx hb dX8_go_60 rfl (lv_at hl 3 rfl) ?_
          refine lv_icmp_ge (tgt := 122) hx hb dX8_go_61 (by decide) (fun _ => ?_) (fun c => absurd (xle_t hn_x rfl (by omega) (by omega)) c)
          refine lv_aload_n hx hb dX8_go_122 rfl (lv_at hl 2 rfl) ?_
          refine lv_iload_n hx hb dX8_go_123 rfl (lv_at hl 1 rfl) ?_
          refine xc_i (wc := [(o, eMM r (.ref ma) fr (upd (upd I 0 0) 18 X4.2.1) L)]) (wr := [(ma, eMI mr MI), ((mr 11), aI k 6 mpr), ((mr 12), aI k 5 mbr), ((mr 13), aI k 5 mnx), ((mr 14), aI k 4 mhd), ((mr 15), aI k 20 mtn), ((r 16), aI k 37 X4.2.2.1), ((r 19), aI k 240 X4.2.2.2)]) hP hD hS hA [0] [1, 2, 3, 4, 5, 6, 7, 8] rfl rfl rfl (by decide) (xrV ⟨hx, hb, hml, hown, hts⟩ hg (m_X8_done l D k _ o r (.ref ma) fr (upd (upd I 0 0) 18 X4.2.1) L X4.1) hP hD [0] rfl rfl trivial (ci := 10) (q0 := 0) rfl rfl rfl q1482 q1484 qs60 q93 q1485 xo_X8_done ⟨rfl, rfl⟩ ⟨Nat.le_of_ble_eq_true rfl, Nat.le_of_ble_eq_true rfl⟩ hl.1 (Nat.le_of_ble_eq_true rfl) dX8_go_124 ⟨Nat.le_of_ble_eq_true rfl, Nat.le_of_ble_eq_true rfl⟩ rfl) (fun r_ u56 H locs hw hP hD hS hk => ?_)
          obtain ⟨rfl, eu56⟩ := hw
          replace hP : va_P D vwCl [(o, eMM r (.ref ma) fr (upd (upd (upd (upd I 0 0) 18 X4.2.1) 1 u56.2.1) 2 u56.2.2) L), (ma, eMI mr MI), ((mr 11), aI k 6 mpr), ((mr 12), aI k 5 mbr), ((mr 13), aI k 5 mnx), ((mr 14), aI k 4 mhd), ((mr 15), aI k 20 mtn), ((r 16), aI k 37 X4.2.2.1), ((r 19), aI k 240 X4.2.2.2)] H := hP.sub [8, 0, 1, 2, 3, 4, 5, 6, 7] rfl
          replace hD : va_D A [(o, eMM r (.ref ma) fr (upd (upd (upd (upd I 0 0) 18 X4.2.1) 1 u56.2.1) 2 u56.2.2) L), (ma, eMI mr MI), ((mr 11), aI k 6 mpr), ((mr 12), aI k 5 mbr), ((mr 13), aI k 5 mnx), ((mr 14), aI k 4 mhd), ((mr 15), aI k 20 mtn), ((r 16), aI k 37 X4.2.2.1), ((r 19), aI k 240 X4.2.2.2)] := hD.sub [8, 0, 1, 2, 3, 4, 5, 6, 7] (by decide) rfl
          exact xret_i hx hb hr hlocks (Nat.le_of_ble_eq_true rfl) (Nat.le_of_ble_eq_true rfl) hS.2.2 dX8_go_127 (fun t ht => ⟨⟨u56.1, (u56.1, 0, u56.2.1, u56.2.2, X4.2.1, X4.2.2.1, X4.2.2.2), rfl, ⟨rfl, (by subst eu56; subst eX4; subst eu1; exact Eq.symm (Eq.trans (if_neg c2) (Eq.trans (if_pos c3) (rfl))))⟩, by rw [ht]; exact hP, hD⟩, hS.F ht⟩)
        | succ n4 ih4 =>
          intro i4 X4 H locs ls hn4 eX4 hP hD hS hl
          have hi4 : i4 < x.toNatClampNeg := by omega
          refine lv_iload_n hx hb dX8_go_59 rfl (lv_at hl 0 rfl) ?_
          refine lv_iload_n hx hb dX8_go_60 rfl (lv_at hl 3 rfl) ?_
          refine lv_icmp_ge (tgt := 122) hx hb dX8_go_61 (by decide) (fun c => absurd c (xle_f hn_x rfl (by omega) (by omega))) (fun _ => ?_)
          have hgi4 : cnt X4.2.1 (st0 + i4) ∧ X4.2.2.1 27 = nI (now + i4) ∧ X4.2.2.1 36 = nI ore := by
            rw [eX4]
            refine itN_inv (P := fun i (Y : Int32 × Int32 × (Nat → Int32) × (Nat → Int32)) => cnt Y.2.1 (st0 + i) ∧ Y.2.2.1 27 = nI (now + i) ∧ Y.2.2.1 36 = nI ore) (N := x.toNatClampNeg) ⟨⟨st0, Nat.le_refl _, hst⟩, hs27, hs36⟩ (fun i Y hi hY => ?_) i4 (by omega)
            refine ⟨?_, ?_, ?_⟩
            · show cnt (f_X8_go_l59 _ _ _ _ _ _ _ _ _ _ i Y).2.1 (st0 + i + 1)
              unfold f_X8_go_l59; dsimp only; unfold f_X8_go_j4
              split
              · exact hY.1.same
              · exact hY.1.inc
            · show f_X8_goes MI mpr mbr mnx mhd mtn Y.2.2.1 ore nP (now + i) nS 27 = nI (now + (i + 1))
              rw [go_27 hS5, hY.2.1]; exact (nI_succ _).symm
            · show f_X8_goes MI mpr mbr mnx mhd mtn Y.2.2.1 ore nP (now + i) nS 36 = nI ore
              rw [go_keep hS5 36 (by decide)]; exact hY.2.2
          refine lv_aload_n hx hb dX8_go_64 rfl (lv_at hl 2 rfl) ?_
          refine lv_aload_n hx hb dX8_go_65 rfl (lv_at hl 2 rfl) ?_
          refine va_get (D := D) (ci := 10) (v := .ref (r 16)) (C := RX8) (T := TX8) (N := 37) hx hb hts in_X8 hown hg.1 hP 0 rfl rfl 16 (Nat.le_of_ble_eq_true rfl) (hts _ q1157) (fun _ h9 => h9) rfl dX8_go_66 ?_
          refine xc_v (wc := [(o, eMM r (.ref ma) fr (upd (upd I 0 0) 18 X4.2.1) L), (ma, eMI mr MI), ((mr 11), aI k 6 mpr), ((mr 12), aI k 5 mbr), ((mr 13), aI k 5 mnx), ((mr 14), aI k 4 mhd), ((mr 15), aI k 20 mtn), ((r 16), aI k 37 X4.2.2.1)]) (wr := [((r 19), aI k 240 X4.2.2.2)]) hP hD hS hA [0, 1, 2, 3, 4, 5, 6, 7] [8] rfl rfl rfl (by decide) (xrV ⟨hx, hb, hml, hown, hts⟩ hg (m_X8_goes l D k _ o r fr (upd (upd I 0 0) 18 X4.2.1) L ma mr MI mpr mbr mnx mhd mtn (r 16) X4.2.2.1 ore nP (now + i4) nS hmS hS2 hS5 hore hgi4.2.2 hgi4.2.1 (by omega) hpr hP1 hP6 hroom hlife (hhd _ hore)) hP hD [0, 1, 2, 3, 4, 5, 6, 7] rfl rfl trivial (ci := 10) (q0 := 0) rfl rfl rfl q1518 q1520 qs64 q93 q1521 xo_X8_goes ⟨rfl, rfl⟩ ⟨Nat.le_of_ble_eq_true rfl, Nat.le_of_ble_eq_true rfl⟩ hl.1 (Nat.le_of_ble_eq_true rfl) dX8_go_69 ⟨Nat.le_of_ble_eq_true rfl, Nat.le_of_ble_eq_true rfl⟩ rfl) (fun u57 H locs hw hP hD hS hk => ?_)
          have eu57 := hw
          replace hP : va_P D vwCl [(o, eMM r (.ref ma) fr (upd (upd I 0 0) 18 X4.2.1) L), (ma, eMI mr MI), ((mr 11), aI k 6 mpr), ((mr 12), aI k 5 mbr), ((mr 13), aI k 5 mnx), ((mr 14), aI k 4 mhd), ((mr 15), aI k 20 mtn), ((r 16), aI k 37 u57), ((r 19), aI k 240 X4.2.2.2)] H := hP.sub [1, 2, 3, 4, 5, 6, 7, 8, 0] rfl
          replace hD : va_D A [(o, eMM r (.ref ma) fr (upd (upd I 0 0) 18 X4.2.1) L), (ma, eMI mr MI), ((mr 11), aI k 6 mpr), ((mr 12), aI k 5 mbr), ((mr 13), aI k 5 mnx), ((mr 14), aI k 4 mhd), ((mr 15), aI k 20 mtn), ((r 16), aI k 37 u57), ((r 19), aI k 240 X4.2.2.2)] := hD.sub [1, 2, 3, 4, 5, 6, 7, 8, 0] (by decide) rfl
          refine lv_aload_n hx hb dX8_go_72 rfl (lv_at hl 2 rfl) ?_
          refine va_get (D := D) (ci := 10) (v := .ref (r 16)) (C := RX8) (T := TX8) (N := 37) hx hb hts in_X8 hown hg.1 hP 0 rfl rfl 16 (Nat.le_of_ble_eq_true rfl) (hts _ q1157) (fun _ h9 => h9) rfl dX8_go_73 ?_
          refine lv_bipush (v := 26) hx hb dX8_go_76 cb_26 ?_
          refine xa_iald hx hb hg hP 7 rfl xl_26 (by first | omega | exact Nat.lt_of_lt_of_le (Nat.mod_lt _ (by omega)) (by omega)) (by omega) dX8_go_78 ?_
          have Jn4 : ∀ (v68 : (Int32) × (Int32) × (Nat → Int32)) (H : Heap) (locs : List Loc) (ls : Array Slot), v68 = f_X8_go_j4 X4 u57 → va_P D vwCl [(o, eMM r (.ref ma) fr (upd (upd I 0 0) 18 v68.2.1) L), (ma, eMI mr MI), ((mr 11), aI k 6 mpr), ((mr 12), aI k 5 mbr), ((mr 13), aI k 5 mnx), ((mr 14), aI k 4 mhd), ((mr 15), aI k 20 mtn), ((r 16), aI k 37 u57), ((r 19), aI k 240 v68.2.2)] H → va_D A [(o, eMM r (.ref ma) fr (upd (upd I 0 0) 18 v68.2.1) L), (ma, eMI mr MI), ((mr 11), aI k 6 mpr), ((mr 12), aI k 5 mbr), ((mr 13), aI k 5 mnx), ((mr 14), aI k 4 mhd), ((mr 15), aI k 20 mtn), ((r 16), aI k 37 u57), ((r 19), aI k 240 v68.2.2)] → va_S A s.heap H locs → lv_has ls 4 [(3, .int (nI i4)), (2, .int v68.1), (0, .ref o), (1, .int x)] → W p l e rm_X8_go s m ([.ref o, .int x] : List Value).toArray below meth c H locs 0 0 (MQ below (q_X8_go D k o r fr I L ma mr MI mpr mbr mnx mhd mtn sv sd x st0 ore now nP nS A) ([.ref o, .int x] : List Value).toArray s 0 0 A) (F0 m 116 ls []) := by
            intro v68 H locs ls ev68 hP hD hS hl
            refine lv_iinc (v := (nI (i4 + 1))) (lv' := [(3, .int (nI (i4 + 1))), (2, .int v68.1), (0, .ref o), (1, .int x)]) hx hb dX8_go_116 hl (k := 0) rfl (xinc1 _) (Nat.le_of_ble_eq_true rfl) rfl (fun ls hl => ?_)
            refine lv_goto (tgt := 59) hx hb dX8_go_119 (by decide) ?_
            exact ih4 (i4 + 1) (v68.1, v68.2.1, u57, v68.2.2) _ _ _ (by omega) (Eq.trans (by subst ev68; subst eu57; exact rfl) (congrArg (f_X8_go_l59 MI mpr mbr mnx mhd mtn ore now nP nS i4) eX4)) hP hD hS (lv_sub hl [0, 1, 2, 3] rfl)
          refine lv_if_ne (tgt := 88) hx hb dX8_go_79 (by decide) (fun c69 => ?_) (fun c69 => ?_)
          · refine lv_aload_n hx hb dX8_go_88 rfl (lv_at hl 2 rfl) ?_
            refine va_get (D := D) (ci := 10) (v := .ref (r 19)) (C := RX8) (T := TX8) (N := 37) hx hb hts in_X8 hown hg.1 hP 0 rfl rfl 19 (Nat.le_of_ble_eq_true rfl) (hts _ q1160) (fun _ h9 => h9) rfl dX8_go_89 ?_
            refine lv_aload_n hx hb dX8_go_92 rfl (lv_at hl 2 rfl) ?_
            refine va_get (D := D) (ci := 10) (v := .int X4.2.1) (C := RX8) (T := TX8) (N := 37) hx hb hts in_X8 hown hg.1 hP 0 rfl rfl 18 (Nat.le_of_ble_eq_true rfl) (hts _ q1159) (fun _ h9 => h9) rfl dX8_go_93 ?_
            refine lv_aload_n hx hb dX8_go_96 rfl (lv_at hl 2 rfl) ?_
            refine va_get (D := D) (ci := 10) (v := .ref (r 16)) (C := RX8) (T := TX8) (N := 37) hx hb hts in_X8 hown hg.1 hP 0 rfl rfl 16 (Nat.le_of_ble_eq_true rfl) (hts _ q1157) (fun _ h9 => h9) rfl dX8_go_97 ?_
            refine lv_bipush (v := 27) hx hb dX8_go_100 cb_27 ?_
            refine xa_iald hx hb hg hP 7 rfl xl_27 (by first | omega | exact Nat.lt_of_lt_of_le (Nat.mod_lt _ (by omega)) (by omega)) (by omega) dX8_go_102 ?_
            refine lv_iconst (v := 1) hx hb dX8_go_103 ci_1 ?_
            refine lv_isub hx hb dX8_go_104 ?_
            obtain ⟨hki4, hkbi4⟩ := hgi4.1.nat (by omega)
            refine lv_topi (fun x70 ex70 => ?_)
            refine xa_iast hx hb hg hP hD hS 8 rfl hki4 (by omega) (by omega) dX8_go_105 (fun f71 H locs ef71 hP hD hS => ?_)
            replace hP : va_P D vwCl [(o, eMM r (.ref ma) fr (upd (upd I 0 0) 18 X4.2.1) L), (ma, eMI mr MI), ((mr 11), aI k 6 mpr), ((mr 12), aI k 5 mbr), ((mr 13), aI k 5 mnx), ((mr 14), aI k 4 mhd), ((mr 15), aI k 20 mtn), ((r 16), aI k 37 u57), ((r 19), aI k 240 f71)] H := hP
            replace hD : va_D A [(o, eMM r (.ref ma) fr (upd (upd I 0 0) 18 X4.2.1) L), (ma, eMI mr MI), ((mr 11), aI k 6 mpr), ((mr 12), aI k 5 mbr), ((mr 13), aI k 5 mnx), ((mr 14), aI k 4 mhd), ((mr 15), aI k 20 mtn), ((r 16), aI k 37 u57), ((r 19), aI k 240 f71)] := hD
            refine lv_aload_n hx hb dX8_go_106 rfl (lv_at hl 2 rfl) ?_
            refine lv_dup hx hb dX8_go_107 rfl ?_
            refine va_get (D := D) (ci := 10) (v := .int X4.2.1) (C := RX8) (T := TX8) (N := 37) hx hb hts in_X8 hown hg.1 hP 0 rfl rfl 18 (Nat.le_of_ble_eq_true rfl) (hts _ q1159) (fun _ h9 => h9) rfl dX8_go_108 ?_
            refine lv_iconst (v := 1) hx hb dX8_go_111 ci_1 ?_
            refine lv_iadd hx hb dX8_go_112 ?_
            refine lv_topi (fun x72 ex72 => ?_)
            refine va_put (D := D) (ci := 10) (v := .int x72) (C := RX8) (T := TX8) (N := 37) hx hb hts in_X8 tyX8 tyX8_ok nmX8 hown hg.1 hP hD hS 0 rfl rfl 18 (Nat.le_of_ble_eq_true rfl) (hts _ q1159) (fun _ h9 => h9) rfl ftX8_18 rfl rfl (Nat.le_of_ble_eq_true rfl) dX8_go_113 (fun H locs hP hD hS => ?_)
            replace hP : va_P D vwCl [(o, eMM r (.ref ma) fr (upd (upd I 0 0) 18 x72) L), (ma, eMI mr MI), ((mr 11), aI k 6 mpr), ((mr 12), aI k 5 mbr), ((mr 13), aI k 5 mnx), ((mr 14), aI k 4 mhd), ((mr 15), aI k 20 mtn), ((r 16), aI k 37 u57), ((r 19), aI k 240 f71)] H := hP
            replace hD : va_D A [(o, eMM r (.ref ma) fr (upd (upd I 0 0) 18 x72) L), (ma, eMI mr MI), ((mr 11), aI k 6 mpr), ((mr 12), aI k 5 mbr), ((mr 13), aI k 5 mnx), ((mr 14), aI k 4 mhd), ((mr 15), aI k 20 mtn), ((r 16), aI k 37 u57), ((r 19), aI k 240 f71)] := hD
            exact Jn4 (X4.1, x72, f71) _ _ _ (by subst ex72; subst ef71; subst ex70; exact Eq.symm (Eq.trans (if_neg c69) (rfl))) hP hD hS (lv_sub hl [0, 1, 2, 3] rfl)
          · obtain ⟨x73, ex73⟩ : ∃ z : Int32, z = X4.1 + 1 := ⟨_, rfl⟩
            refine lv_iinc (v := x73) (lv' := [(2, .int x73), (3, .int (nI i4)), (0, .ref o), (1, .int x)]) hx hb dX8_go_82 hl (k := 1) rfl (by rw [ex73, ci_1]) (Nat.le_of_ble_eq_true rfl) rfl (fun ls hl => ?_)
            refine lv_goto (tgt := 116) hx hb dX8_go_85 (by decide) ?_
            exact Jn4 (x73, X4.2.1, X4.2.2.2) _ _ _ (by subst ex73; exact Eq.symm (Eq.trans (if_pos c69) (rfl))) hP hD hS (lv_sub hl [1, 0, 2, 3] rfl)
      exact loop4 x.toNatClampNeg 0 (0, (I 18), sv, sd) _ _ _ (by omega) rfl hP hD hS (by have h := (lv_sub hl [0, 1, 2, 3] rfl); exact h)
    · refine lv_aload_n hx hb dX8_go_49 rfl (lv_at hl 0 rfl) ?_
      refine lv_iconst (v := 3) hx hb dX8_go_50 ci_3 ?_
      refine xc_i (wc := [(o, eMM r (.ref ma) fr (upd I 0 0) L)]) (wr := [(ma, eMI mr MI), ((mr 11), aI k 6 mpr), ((mr 12), aI k 5 mbr), ((mr 13), aI k 5 mnx), ((mr 14), aI k 4 mhd), ((mr 15), aI k 20 mtn), ((r 16), aI k 37 sv), ((r 19), aI k 240 sd)]) hP hD hS hA [0] [1, 2, 3, 4, 5, 6, 7, 8] rfl rfl rfl (by decide) (xrV ⟨hx, hb, hml, hown, hts⟩ hg (m_X8_refused l D k _ o r (.ref ma) fr (upd I 0 0) L 3) hP hD [0] rfl rfl trivial (ci := 10) (q0 := 0) rfl rfl rfl q1265 q1267 qs39 q93 q1268 xo_X8_refused ⟨rfl, rfl⟩ ⟨Nat.le_of_ble_eq_true rfl, Nat.le_of_ble_eq_true rfl⟩ hl.1 (Nat.le_of_ble_eq_true rfl) dX8_go_51 ⟨Nat.le_of_ble_eq_true rfl, Nat.le_of_ble_eq_true rfl⟩ rfl) (fun r_ u74 H locs hw hP hD hS hk => ?_)
      obtain ⟨rfl, eu74⟩ := hw
      replace hP : va_P D vwCl [(o, eMM r (.ref ma) fr (upd (upd (upd I 0 0) 1 u74.2.1) 2 u74.2.2) L), (ma, eMI mr MI), ((mr 11), aI k 6 mpr), ((mr 12), aI k 5 mbr), ((mr 13), aI k 5 mnx), ((mr 14), aI k 4 mhd), ((mr 15), aI k 20 mtn), ((r 16), aI k 37 sv), ((r 19), aI k 240 sd)] H := hP.sub [8, 0, 1, 2, 3, 4, 5, 6, 7] rfl
      replace hD : va_D A [(o, eMM r (.ref ma) fr (upd (upd (upd I 0 0) 1 u74.2.1) 2 u74.2.2) L), (ma, eMI mr MI), ((mr 11), aI k 6 mpr), ((mr 12), aI k 5 mbr), ((mr 13), aI k 5 mnx), ((mr 14), aI k 4 mhd), ((mr 15), aI k 20 mtn), ((r 16), aI k 37 sv), ((r 19), aI k 240 sd)] := hD.sub [8, 0, 1, 2, 3, 4, 5, 6, 7] (by decide) rfl
      exact xret_i hx hb hr hlocks (Nat.le_of_ble_eq_true rfl) (Nat.le_of_ble_eq_true rfl) hS.2.2 dX8_go_54 (fun t ht => ⟨⟨u74.1, (u74.1, 0, u74.2.1, u74.2.2, (I 18), sv, sd), rfl, ⟨rfl, (by subst eu74; subst eu1; exact Eq.symm (Eq.trans (if_neg c2) (Eq.trans (if_neg c3) (rfl))))⟩, by rw [ht]; exact hP, hD⟩, hS.F ht⟩)
  · refine lv_aload_n hx hb dX8_go_28 rfl (lv_at hl 0 rfl) ?_
    refine lv_iconst (v := 2) hx hb dX8_go_29 ci_2 ?_
    refine xc_i (wc := [(o, eMM r (.ref ma) fr (upd I 0 0) L)]) (wr := [(ma, eMI mr MI), ((mr 11), aI k 6 mpr), ((mr 12), aI k 5 mbr), ((mr 13), aI k 5 mnx), ((mr 14), aI k 4 mhd), ((mr 15), aI k 20 mtn), ((r 16), aI k 37 sv), ((r 19), aI k 240 sd)]) hP hD hS hA [0] [1, 2, 3, 4, 5, 6, 7, 8] rfl rfl rfl (by decide) (xrV ⟨hx, hb, hml, hown, hts⟩ hg (m_X8_refused l D k _ o r (.ref ma) fr (upd I 0 0) L 2) hP hD [0] rfl rfl trivial (ci := 10) (q0 := 0) rfl rfl rfl q1265 q1267 qs39 q93 q1268 xo_X8_refused ⟨rfl, rfl⟩ ⟨Nat.le_of_ble_eq_true rfl, Nat.le_of_ble_eq_true rfl⟩ hl.1 (Nat.le_of_ble_eq_true rfl) dX8_go_30 ⟨Nat.le_of_ble_eq_true rfl, Nat.le_of_ble_eq_true rfl⟩ rfl) (fun r_ u75 H locs hw hP hD hS hk => ?_)
    obtain ⟨rfl, eu75⟩ := hw
    replace hP : va_P D vwCl [(o, eMM r (.ref ma) fr (upd (upd (upd I 0 0) 1 u75.2.1) 2 u75.2.2) L), (ma, eMI mr MI), ((mr 11), aI k 6 mpr), ((mr 12), aI k 5 mbr), ((mr 13), aI k 5 mnx), ((mr 14), aI k 4 mhd), ((mr 15), aI k 20 mtn), ((r 16), aI k 37 sv), ((r 19), aI k 240 sd)] H := hP.sub [8, 0, 1, 2, 3, 4, 5, 6, 7] rfl
    replace hD : va_D A [(o, eMM r (.ref ma) fr (upd (upd (upd I 0 0) 1 u75.2.1) 2 u75.2.2) L), (ma, eMI mr MI), ((mr 11), aI k 6 mpr), ((mr 12), aI k 5 mbr), ((mr 13), aI k 5 mnx), ((mr 14), aI k 4 mhd), ((mr 15), aI k 20 mtn), ((r 16), aI k 37 sv), ((r 19), aI k 240 sd)] := hD.sub [8, 0, 1, 2, 3, 4, 5, 6, 7] (by decide) rfl
    exact xret_i hx hb hr hlocks (Nat.le_of_ble_eq_true rfl) (Nat.le_of_ble_eq_true rfl) hS.2.2 dX8_go_33 (fun t ht => ⟨⟨u75.1, (u75.1, 0, u75.2.1, u75.2.2, (I 18), sv, sd), rfl, ⟨rfl, (by subst eu75; subst eu1; exact Eq.symm (Eq.trans (if_pos c2) (rfl)))⟩, by rw [ht]; exact hP, hD⟩, hS.F ht⟩)

def f_X8_goN  : Int32 × Int32 × Int32 × Int32 :=
  let u1 := f_X8_refused 1
  (u1.1, 0, u1.2.1, u1.2.2)
abbrev q_X8_goN (D : va_G) (k : KK) (o : Nat) (r : Nat → Nat) (fr : Value) (I : Nat → Int32) (L : Nat → Int64) (x : Int32) (A : Nat → Prop) : Array Value → State → Outcome → State → Prop := va_Qi (fun (r_ : Int32) (u : Int32 × Int32 × Int32 × Int32) => r_ = u.1 ∧ u = f_X8_goN) (bx D (fun u => [(o, eMM r .null fr (upd (upd (upd I 0 u.2.1) 1 u.2.2.1) 2 u.2.2.2) L)]) A) A
abbrev rm_X8_goN : Room := { frames := 5, cells := 0, slots := 0, locals := 200 }
set_option maxHeartbeats 8000000 in
theorem m_X8_goN (l : Launch) (D : va_G) (k : KK) (sz : Nat) (o : Nat) (r : Nat → Nat) (fr : Value) (I : Nat → Int32) (L : Nat → Int64) (x : Int32)  : Met l yX8_go (ws_ yX8_go cX8_go 4 (some .int)) rm_X8_goN (pcx D k [.ref o, .int x] sz [(o, eMM r .null fr I L)] (fun _ => True)) (q_X8_goN D k o r fr I L x (va_A [(o, eMM r .null fr I L)] sz)) 0 0 (va_A [(o, eMM r .null fr I L)] sz) := by
  refine Met.start (Qc := q_X8_goN D k o r fr I L x) (by decide) (Nat.le_of_ble_eq_true rfl) ?_
  intro p e s m below meth c A hx hb hr hlocks hml hown hin hts hg hP hD hA hAn hS hY hsz ls hl
  have hown : s.vm.findClass RX8 = some m.cls := hown
  have hl : lv_has ls 4 [(0, .ref o), (1, .int x)] := hl
  refine lv_aload_n hx hb dX8_go_0 rfl (lv_at hl 0 rfl) ?_
  refine lv_iconst (v := 0) hx hb dX8_go_1 ci_0 ?_
  refine va_put (D := D) (ci := 10) (v := .int 0) (C := RX8) (T := TX8) (N := 37) hx hb hts in_X8 tyX8 tyX8_ok nmX8 hown hg.1 hP hD hS 0 rfl rfl 0 (Nat.le_of_ble_eq_true rfl) (hts _ q1141) (fun _ h9 => h9) rfl ftX8_0 rfl rfl (Nat.le_of_ble_eq_true rfl) dX8_go_2 (fun H locs hP hD hS => ?_)
  replace hP : va_P D vwCl [(o, eMM r .null fr (upd I 0 0) L)] H := hP
  replace hD : va_D A [(o, eMM r .null fr (upd I 0 0) L)] := hD
  refine lv_aload_n hx hb dX8_go_5 rfl (lv_at hl 0 rfl) ?_
  refine va_get (D := D) (ci := 10) (v := .null) (C := RX8) (T := TX8) (N := 37) hx hb hts in_X8 hown hg.1 hP 0 rfl rfl 3 (Nat.le_of_ble_eq_true rfl) (hts _ q1144) (fun _ h9 => h9) rfl dX8_go_6 ?_
  refine lv_ifnonnullN hx hb dX8_go_9 ?_
  refine lv_aload_n hx hb dX8_go_12 rfl (lv_at hl 0 rfl) ?_
  refine lv_iconst (v := 1) hx hb dX8_go_13 ci_1 ?_
  refine xc_i (wc := [(o, eMM r .null fr (upd I 0 0) L)]) (wr := []) hP hD hS hA [0] [] rfl rfl rfl (by decide) (xrV ⟨hx, hb, hml, hown, hts⟩ hg (m_X8_refused l D k _ o r .null fr (upd I 0 0) L 1) hP hD [0] rfl rfl trivial (ci := 10) (q0 := 0) rfl rfl rfl q1265 q1267 qs39 q93 q1268 xo_X8_refused ⟨rfl, rfl⟩ ⟨Nat.le_of_ble_eq_true rfl, Nat.le_of_ble_eq_true rfl⟩ hl.1 (Nat.le_of_ble_eq_true rfl) dX8_go_14 ⟨Nat.le_of_ble_eq_true rfl, Nat.le_of_ble_eq_true rfl⟩ rfl) (fun r_ u1 H locs hw hP hD hS hk => ?_)
  obtain ⟨rfl, eu1⟩ := hw
  replace hP : va_P D vwCl [(o, eMM r .null fr (upd (upd (upd I 0 0) 1 u1.2.1) 2 u1.2.2) L)] H := hP.sub [0] rfl
  replace hD : va_D A [(o, eMM r .null fr (upd (upd (upd I 0 0) 1 u1.2.1) 2 u1.2.2) L)] := hD.sub [0] (by decide) rfl
  exact xret_i hx hb hr hlocks (Nat.le_of_ble_eq_true rfl) (Nat.le_of_ble_eq_true rfl) hS.2.2 dX8_go_17 (fun t ht => ⟨⟨u1.1, (u1.1, 0, u1.2.1, u1.2.2), rfl, ⟨rfl, (by subst eu1; exact rfl)⟩, by rw [ht]; exact hP, hD⟩, hS.F ht⟩)

def f_X8_number_j1 (af : Int32) : (Int32) :=
  if af = 0 then
    0
  else
    1
def f_X8_number (rw : Nat → Int32) (tl : Nat → Int32) (rn : Nat → Nat) (af : Int32) (v : Int32) : Int32 × Int32 × Int32 × Int32 × (Nat → Int32) × (Nat → Int32) :=
  let u1 := f_X8_in v 0 999
  if u1 = 0 then
    let u14 := f_X8_refused 2
    (u14.1, 0, u14.2.1, u14.2.2, rw, tl)
  else
    let v5 := f_X8_number_j1 af
    let j6 := if af = 0 then 0 else 1
    if (rw j6) = 8 then
      let u12 := f_X8_refused 3
      (u12.1, 0, u12.2.1, u12.2.2, rw, tl)
    else
      let f8 := upd tl ((8 * j6) + (rn j6)) v
      let x9 := ((rw j6) + 1)
      let f10 := upd rw j6 x9
      let u11 := f_X8_done (f10 j6)
      (u11.1, 0, u11.2.1, u11.2.2, f10, f8)
abbrev q_X8_number (D : va_G) (k : KK) (o : Nat) (r : Nat → Nat) (fr : Value) (I : Nat → Int32) (L : Nat → Int64) (ma : Nat) (mr : Nat → Nat) (MI : Nat → Int32) (rw : Nat → Int32) (tl : Nat → Int32) (rn : Nat → Nat) (af : Int32) (v : Int32) (A : Nat → Prop) : Array Value → State → Outcome → State → Prop := va_Qi (fun (r_ : Int32) (u : Int32 × Int32 × Int32 × Int32 × (Nat → Int32) × (Nat → Int32)) => r_ = u.1 ∧ u = f_X8_number rw tl rn af v) (bx D (fun u => [(o, eMM r (.ref ma) fr (upd (upd (upd I 0 u.2.1) 1 u.2.2.1) 2 u.2.2.2.1) L), (ma, eMI mr MI), ((r 33), aI k 2 u.2.2.2.2.1), ((r 34), aI k 16 u.2.2.2.2.2)]) A) A
abbrev rm_X8_number : Room := { frames := 3, cells := 0, slots := 0, locals := 120 }
theorem xo_X8_number : xok yX8_number 2 := by unfold xok; decide +kernel
set_option maxHeartbeats 8000000 in
theorem m_X8_number (l : Launch) (D : va_G) (k : KK) (sz : Nat) (o : Nat) (r : Nat → Nat) (fr : Value) (I : Nat → Int32) (L : Nat → Int64) (ma : Nat) (mr : Nat → Nat) (MI : Nat → Int32) (rw : Nat → Int32) (tl : Nat → Int32) (rn : Nat → Nat) (af : Int32) (v : Int32) (hrn : ∀ j, j < 2 → rw j = nI (rn j) ∧ rn j ≤ 8) : Met l yX8_number (ws_ yX8_number cX8_number 4 (some .int)) rm_X8_number (pcx D k [.ref o, .int af, .int v] sz [(o, eMM r (.ref ma) fr I L), (ma, eMI mr MI), ((r 33), aI k 2 rw), ((r 34), aI k 16 tl)] (fun _ => True)) (q_X8_number D k o r fr I L ma mr MI rw tl rn af v (va_A [(o, eMM r (.ref ma) fr I L), (ma, eMI mr MI), ((r 33), aI k 2 rw), ((r 34), aI k 16 tl)] sz)) 0 0 (va_A [(o, eMM r (.ref ma) fr I L), (ma, eMI mr MI), ((r 33), aI k 2 rw), ((r 34), aI k 16 tl)] sz) := by
  refine Met.start (Qc := q_X8_number D k o r fr I L ma mr MI rw tl rn af v) (by decide) (Nat.le_of_ble_eq_true rfl) ?_
  intro p e s m below meth c A hx hb hr hlocks hml hown hin hts hg hP hD hA hAn hS hY hsz ls hl
  have hown : s.vm.findClass RX8 = some m.cls := hown
  have hl : lv_has ls 4 [(0, .ref o), (1, .int af), (2, .int v)] := hl
  refine lv_aload_n hx hb dX8_number_0 rfl (lv_at hl 0 rfl) ?_
  refine lv_iconst (v := 0) hx hb dX8_number_1 ci_0 ?_
  refine va_put (D := D) (ci := 10) (v := .int 0) (C := RX8) (T := TX8) (N := 37) hx hb hts in_X8 tyX8 tyX8_ok nmX8 hown hg.1 hP hD hS 0 rfl rfl 0 (Nat.le_of_ble_eq_true rfl) (hts _ q1141) (fun _ h9 => h9) rfl ftX8_0 rfl rfl (Nat.le_of_ble_eq_true rfl) dX8_number_2 (fun H locs hP hD hS => ?_)
  replace hP : va_P D vwCl [(o, eMM r (.ref ma) fr (upd I 0 0) L), (ma, eMI mr MI), ((r 33), aI k 2 rw), ((r 34), aI k 16 tl)] H := hP
  replace hD : va_D A [(o, eMM r (.ref ma) fr (upd I 0 0) L), (ma, eMI mr MI), ((r 33), aI k 2 rw), ((r 34), aI k 16 tl)] := hD
  refine lv_aload_n hx hb dX8_number_5 rfl (lv_at hl 0 rfl) ?_
  refine va_get (D := D) (ci := 10) (v := .ref ma) (C := RX8) (T := TX8) (N := 37) hx hb hts in_X8 hown hg.1 hP 0 rfl rfl 3 (Nat.le_of_ble_eq_true rfl) (hts _ q1144) (fun _ h9 => h9) rfl dX8_number_6 ?_
  refine lv_ifnonnull (tgt := 18) hx hb dX8_number_9 (by decide) ?_
  refine lv_iload_n hx hb dX8_number_18 rfl (lv_at hl 2 rfl) ?_
  refine lv_iconst (v := 0) hx hb dX8_number_19 ci_0 ?_
  refine lv_sipush (v := 999) hx hb dX8_number_20 cs_999 ?_
  refine xc_i (wc := []) (wr := [(o, eMM r (.ref ma) fr (upd I 0 0) L), (ma, eMI mr MI), ((r 33), aI k 2 rw), ((r 34), aI k 16 tl)]) hP hD hS hA [] [0, 1, 2, 3] rfl rfl rfl (by decide) (xrS ⟨hx, hb, hml, hown, hts⟩ hg (m_X8_in l D k _ v 0 999) hP hD [] rfl rfl trivial q1426 q1427 q93 q1428 xo_X8_in ⟨rfl, rfl⟩ ⟨Nat.le_of_ble_eq_true rfl, Nat.le_of_ble_eq_true rfl⟩ hl.1 (Nat.le_of_ble_eq_true rfl) dX8_number_23 ⟨Nat.le_of_ble_eq_true rfl, Nat.le_of_ble_eq_true rfl⟩ rfl) (fun u1 r_ H locs hw hP hD hS hk => ?_)
  obtain ⟨rfl, eu1, bu1⟩ := hw
  replace hP : va_P D vwCl [(o, eMM r (.ref ma) fr (upd I 0 0) L), (ma, eMI mr MI), ((r 33), aI k 2 rw), ((r 34), aI k 16 tl)] H := hP.sub [0, 1, 2, 3] rfl
  replace hD : va_D A [(o, eMM r (.ref ma) fr (upd I 0 0) L), (ma, eMI mr MI), ((r 33), aI k 2 rw), ((r 34), aI k 16 tl)] := hD.sub [0, 1, 2, 3] (by decide) rfl
  refine lv_if_ne (tgt := 35) hx hb dX8_number_26 (by decide) (fun c2 => ?_) (fun c2 => ?_)
  · refine lv_iload_n hx hb dX8_number_35 rfl (lv_at hl 1 rfl) ?_
    have Jn1 : ∀ (v5 : (Int32)) (H : Heap) (locs : List Loc) (ls : Array Slot), v5 = f_X8_number_j1 af → (v5 = 0 ∨ v5 = 1) → va_P D vwCl [(o, eMM r (.ref ma) fr (upd I 0 0) L), (ma, eMI mr MI), ((r 33), aI k 2 rw), ((r 34), aI k 16 tl)] H → va_D A [(o, eMM r (.ref ma) fr (upd I 0 0) L), (ma, eMI mr MI), ((r 33), aI k 2 rw), ((r 34), aI k 16 tl)] → va_S A s.heap H locs → lv_has ls 4 [(0, .ref o), (1, .int af), (2, .int v)] → W p l e rm_X8_number s m ([.ref o, .int af, .int v] : List Value).toArray below meth c H locs 0 0 (MQ below (q_X8_number D k o r fr I L ma mr MI rw tl rn af v A) ([.ref o, .int af, .int v] : List Value).toArray s 0 0 A) (F0 m 44 ls [.int v5]) := by
      intro v5 H locs ls ev5 bv5_0 hP hD hS hl
      obtain ⟨j6, ej6⟩ : ∃ z : Nat, z = if af = 0 then 0 else 1 := ⟨_, rfl⟩
      have hbj6 : j6 ≤ 1 := by rw [ej6]; (repeat' split) <;> omega
      have hj6 : v5 = nI j6 := by rw [ej6, ev5]; exact xite xl_0 xl_1
      refine lv_istore_n (lv' := [(3, .int v5), (0, .ref o), (1, .int af), (2, .int v)]) hx hb dX8_number_44 rfl hl (Nat.le_of_ble_eq_true rfl) rfl (fun ls hl => ?_)
      refine lv_aload_n hx hb dX8_number_45 rfl (lv_at hl 1 rfl) ?_
      refine va_get (D := D) (ci := 10) (v := .ref (r 33)) (C := RX8) (T := TX8) (N := 37) hx hb hts in_X8 hown hg.1 hP 0 rfl rfl 33 (Nat.le_of_ble_eq_true rfl) (hts _ q1174) (fun _ h9 => h9) rfl dX8_number_46 ?_
      refine lv_iload_n hx hb dX8_number_49 rfl (lv_at hl 0 rfl) ?_
      refine xa_iald hx hb hg hP 2 rfl hj6 (by first | omega | exact Nat.lt_of_lt_of_le (Nat.mod_lt _ (by omega)) (by omega)) (by omega) dX8_number_50 ?_
      refine lv_bipush (v := 8) hx hb dX8_number_51 cb_8 ?_
      refine lv_icmp_ne (tgt := 62) hx hb dX8_number_53 (by decide) (fun c7 => ?_) (fun c7 => ?_)
      · have hr8 := m_ne8 (hrn j6 (by omega)).1 (hrn j6 (by omega)).2 c7
        refine lv_aload_n hx hb dX8_number_62 rfl (lv_at hl 1 rfl) ?_
        refine va_get (D := D) (ci := 10) (v := .ref (r 34)) (C := RX8) (T := TX8) (N := 37) hx hb hts in_X8 hown hg.1 hP 0 rfl rfl 34 (Nat.le_of_ble_eq_true rfl) (hts _ q1175) (fun _ h9 => h9) rfl dX8_number_63 ?_
        refine lv_bipush (v := 8) hx hb dX8_number_66 cb_8 ?_
        refine lv_iload_n hx hb dX8_number_68 rfl (lv_at hl 0 rfl) ?_
        refine lv_imul hx hb dX8_number_69 ?_
        refine lv_aload_n hx hb dX8_number_70 rfl (lv_at hl 1 rfl) ?_
        refine va_get (D := D) (ci := 10) (v := .ref (r 33)) (C := RX8) (T := TX8) (N := 37) hx hb hts in_X8 hown hg.1 hP 0 rfl rfl 33 (Nat.le_of_ble_eq_true rfl) (hts _ q1174) (fun _ h9 => h9) rfl dX8_number_71 ?_
        refine lv_iload_n hx hb dX8_number_74 rfl (lv_at hl 0 rfl) ?_
        refine xa_iald hx hb hg hP 2 rfl hj6 (by first | omega | exact Nat.lt_of_lt_of_le (Nat.mod_lt _ (by omega)) (by omega)) (by omega) dX8_number_75 ?_
        refine lv_iadd hx hb dX8_number_76 ?_
        refine lv_iload_n hx hb dX8_number_77 rfl (lv_at hl 3 rfl) ?_
        refine xa_iast hx hb hg hP hD hS 3 rfl (xnadd (xnmul xl_8 hj6) (hrn j6 (by omega)).1) (by omega) (by omega) dX8_number_78 (fun f8 H locs ef8 hP hD hS => ?_)
        replace hP : va_P D vwCl [(o, eMM r (.ref ma) fr (upd I 0 0) L), (ma, eMI mr MI), ((r 33), aI k 2 rw), ((r 34), aI k 16 f8)] H := hP
        replace hD : va_D A [(o, eMM r (.ref ma) fr (upd I 0 0) L), (ma, eMI mr MI), ((r 33), aI k 2 rw), ((r 34), aI k 16 f8)] := hD
        refine lv_aload_n hx hb dX8_number_79 rfl (lv_at hl 1 rfl) ?_
        refine va_get (D := D) (ci := 10) (v := .ref (r 33)) (C := RX8) (T := TX8) (N := 37) hx hb hts in_X8 hown hg.1 hP 0 rfl rfl 33 (Nat.le_of_ble_eq_true rfl) (hts _ q1174) (fun _ h9 => h9) rfl dX8_number_80 ?_
        refine lv_iload_n hx hb dX8_number_83 rfl (lv_at hl 0 rfl) ?_
        refine lv_dup2_11 hx hb dX8_number_84 rfl rfl ?_
        refine xa_iald hx hb hg hP 2 rfl hj6 (by first | omega | exact Nat.lt_of_lt_of_le (Nat.mod_lt _ (by omega)) (by omega)) (by omega) dX8_number_85 ?_
        refine lv_iconst (v := 1) hx hb dX8_number_86 ci_1 ?_
        refine lv_iadd hx hb dX8_number_87 ?_
        refine lv_topi (fun x9 ex9 => ?_)
        refine xa_iast hx hb hg hP hD hS 2 rfl hj6 (by omega) (by omega) dX8_number_88 (fun f10 H locs ef10 hP hD hS => ?_)
        replace hP : va_P D vwCl [(o, eMM r (.ref ma) fr (upd I 0 0) L), (ma, eMI mr MI), ((r 33), aI k 2 f10), ((r 34), aI k 16 f8)] H := hP
        replace hD : va_D A [(o, eMM r (.ref ma) fr (upd I 0 0) L), (ma, eMI mr MI), ((r 33), aI k 2 f10), ((r 34), aI k 16 f8)] := hD
        refine lv_aload_n hx hb dX8_number_89 rfl (lv_at hl 1 rfl) ?_
        refine lv_aload_n hx hb dX8_number_90 rfl (lv_at hl 1 rfl) ?_
        refine va_get (D := D) (ci := 10) (v := .ref (r 33)) (C := RX8) (T := TX8) (N := 37) hx hb hts in_X8 hown hg.1 hP 0 rfl rfl 33 (Nat.le_of_ble_eq_true rfl) (hts _ q1174) (fun _ h9 => h9) rfl dX8_number_91 ?_
        refine lv_iload_n hx hb dX8_number_94 rfl (lv_at hl 0 rfl) ?_
        refine xa_iald hx hb hg hP 2 rfl hj6 (by first | omega | exact Nat.lt_of_lt_of_le (Nat.mod_lt _ (by omega)) (by omega)) (by omega) dX8_number_95 ?_
        refine xc_i (wc := [(o, eMM r (.ref ma) fr (upd I 0 0) L)]) (wr := [(ma, eMI mr MI), ((r 33), aI k 2 f10), ((r 34), aI k 16 f8)]) hP hD hS hA [0] [1, 2, 3] rfl rfl rfl (by decide) (xrV ⟨hx, hb, hml, hown, hts⟩ hg (m_X8_done l D k _ o r (.ref ma) fr (upd I 0 0) L (f10 j6)) hP hD [0] rfl rfl trivial (ci := 10) (q0 := 0) rfl rfl rfl q1482 q1484 qs60 q93 q1485 xo_X8_done ⟨rfl, rfl⟩ ⟨Nat.le_of_ble_eq_true rfl, Nat.le_of_ble_eq_true rfl⟩ hl.1 (Nat.le_of_ble_eq_true rfl) dX8_number_96 ⟨Nat.le_of_ble_eq_true rfl, Nat.le_of_ble_eq_true rfl⟩ rfl) (fun r_ u11 H locs hw hP hD hS hk => ?_)
        obtain ⟨rfl, eu11⟩ := hw
        replace hP : va_P D vwCl [(o, eMM r (.ref ma) fr (upd (upd (upd I 0 0) 1 u11.2.1) 2 u11.2.2) L), (ma, eMI mr MI), ((r 33), aI k 2 f10), ((r 34), aI k 16 f8)] H := hP.sub [3, 0, 1, 2] rfl
        replace hD : va_D A [(o, eMM r (.ref ma) fr (upd (upd (upd I 0 0) 1 u11.2.1) 2 u11.2.2) L), (ma, eMI mr MI), ((r 33), aI k 2 f10), ((r 34), aI k 16 f8)] := hD.sub [3, 0, 1, 2] (by decide) rfl
        exact xret_i hx hb hr hlocks (Nat.le_of_ble_eq_true rfl) (Nat.le_of_ble_eq_true rfl) hS.2.2 dX8_number_99 (fun t ht => ⟨⟨u11.1, (u11.1, 0, u11.2.1, u11.2.2, f10, f8), rfl, ⟨rfl, (by subst eu11; subst ef10; subst ex9; subst ef8; subst ej6; subst ev5; subst eu1; exact Eq.symm (Eq.trans (if_neg c2) (Eq.trans (if_neg c7) (rfl))))⟩, by rw [ht]; exact hP, hD⟩, hS.F ht⟩)
      · refine lv_aload_n hx hb dX8_number_56 rfl (lv_at hl 1 rfl) ?_
        refine lv_iconst (v := 3) hx hb dX8_number_57 ci_3 ?_
        refine xc_i (wc := [(o, eMM r (.ref ma) fr (upd I 0 0) L)]) (wr := [(ma, eMI mr MI), ((r 33), aI k 2 rw), ((r 34), aI k 16 tl)]) hP hD hS hA [0] [1, 2, 3] rfl rfl rfl (by decide) (xrV ⟨hx, hb, hml, hown, hts⟩ hg (m_X8_refused l D k _ o r (.ref ma) fr (upd I 0 0) L 3) hP hD [0] rfl rfl trivial (ci := 10) (q0 := 0) rfl rfl rfl q1265 q1267 qs39 q93 q1268 xo_X8_refused ⟨rfl, rfl⟩ ⟨Nat.le_of_ble_eq_true rfl, Nat.le_of_ble_eq_true rfl⟩ hl.1 (Nat.le_of_ble_eq_true rfl) dX8_number_58 ⟨Nat.le_of_ble_eq_true rfl, Nat.le_of_ble_eq_true rfl⟩ rfl) (fun r_ u12 H locs hw hP hD hS hk => ?_)
        obtain ⟨rfl, eu12⟩ := hw
        replace hP : va_P D vwCl [(o, eMM r (.ref ma) fr (upd (upd (upd I 0 0) 1 u12.2.1) 2 u12.2.2) L), (ma, eMI mr MI), ((r 33), aI k 2 rw), ((r 34), aI k 16 tl)] H := hP.sub [3, 0, 1, 2] rfl
        replace hD : va_D A [(o, eMM r (.ref ma) fr (upd (upd (upd I 0 0) 1 u12.2.1) 2 u12.2.2) L), (ma, eMI mr MI), ((r 33), aI k 2 rw), ((r 34), aI k 16 tl)] := hD.sub [3, 0, 1, 2] (by decide) rfl
        exact xret_i hx hb hr hlocks (Nat.le_of_ble_eq_true rfl) (Nat.le_of_ble_eq_true rfl) hS.2.2 dX8_number_61 (fun t ht => ⟨⟨u12.1, (u12.1, 0, u12.2.1, u12.2.2, rw, tl), rfl, ⟨rfl, (by subst eu12; subst ej6; subst ev5; subst eu1; exact Eq.symm (Eq.trans (if_neg c2) (Eq.trans (if_pos c7) (rfl))))⟩, by rw [ht]; exact hP, hD⟩, hS.F ht⟩)
    refine lv_if_eq (tgt := 43) hx hb dX8_number_36 (by decide) (fun c13 => ?_) (fun c13 => ?_)
    · refine lv_iconst (v := 0) hx hb dX8_number_43 ci_0 ?_
      exact Jn1 0 _ _ _ (by exact Eq.symm (Eq.trans (if_pos c13) (rfl))) (Or.inl rfl) hP hD hS (lv_sub hl [0, 1, 2] rfl)
    · refine lv_iconst (v := 1) hx hb dX8_number_39 ci_1 ?_
      refine lv_goto (tgt := 44) hx hb dX8_number_40 (by decide) ?_
      exact Jn1 1 _ _ _ (by exact Eq.symm (Eq.trans (if_neg c13) (rfl))) (Or.inr rfl) hP hD hS (lv_sub hl [0, 1, 2] rfl)
  · refine lv_aload_n hx hb dX8_number_29 rfl (lv_at hl 0 rfl) ?_
    refine lv_iconst (v := 2) hx hb dX8_number_30 ci_2 ?_
    refine xc_i (wc := [(o, eMM r (.ref ma) fr (upd I 0 0) L)]) (wr := [(ma, eMI mr MI), ((r 33), aI k 2 rw), ((r 34), aI k 16 tl)]) hP hD hS hA [0] [1, 2, 3] rfl rfl rfl (by decide) (xrV ⟨hx, hb, hml, hown, hts⟩ hg (m_X8_refused l D k _ o r (.ref ma) fr (upd I 0 0) L 2) hP hD [0] rfl rfl trivial (ci := 10) (q0 := 0) rfl rfl rfl q1265 q1267 qs39 q93 q1268 xo_X8_refused ⟨rfl, rfl⟩ ⟨Nat.le_of_ble_eq_true rfl, Nat.le_of_ble_eq_true rfl⟩ hl.1 (Nat.le_of_ble_eq_true rfl) dX8_number_31 ⟨Nat.le_of_ble_eq_true rfl, Nat.le_of_ble_eq_true rfl⟩ rfl) (fun r_ u14 H locs hw hP hD hS hk => ?_)
    obtain ⟨rfl, eu14⟩ := hw
    replace hP : va_P D vwCl [(o, eMM r (.ref ma) fr (upd (upd (upd I 0 0) 1 u14.2.1) 2 u14.2.2) L), (ma, eMI mr MI), ((r 33), aI k 2 rw), ((r 34), aI k 16 tl)] H := hP.sub [3, 0, 1, 2] rfl
    replace hD : va_D A [(o, eMM r (.ref ma) fr (upd (upd (upd I 0 0) 1 u14.2.1) 2 u14.2.2) L), (ma, eMI mr MI), ((r 33), aI k 2 rw), ((r 34), aI k 16 tl)] := hD.sub [3, 0, 1, 2] (by decide) rfl
    exact xret_i hx hb hr hlocks (Nat.le_of_ble_eq_true rfl) (Nat.le_of_ble_eq_true rfl) hS.2.2 dX8_number_34 (fun t ht => ⟨⟨u14.1, (u14.1, 0, u14.2.1, u14.2.2, rw, tl), rfl, ⟨rfl, (by subst eu14; subst eu1; exact Eq.symm (Eq.trans (if_pos c2) (rfl)))⟩, by rw [ht]; exact hP, hD⟩, hS.F ht⟩)

def f_X8_numberN  : Int32 × Int32 × Int32 × Int32 :=
  let u1 := f_X8_refused 1
  (u1.1, 0, u1.2.1, u1.2.2)
abbrev q_X8_numberN (D : va_G) (k : KK) (o : Nat) (r : Nat → Nat) (fr : Value) (I : Nat → Int32) (L : Nat → Int64) (af : Int32) (v : Int32) (A : Nat → Prop) : Array Value → State → Outcome → State → Prop := va_Qi (fun (r_ : Int32) (u : Int32 × Int32 × Int32 × Int32) => r_ = u.1 ∧ u = f_X8_numberN) (bx D (fun u => [(o, eMM r .null fr (upd (upd (upd I 0 u.2.1) 1 u.2.2.1) 2 u.2.2.2) L)]) A) A
abbrev rm_X8_numberN : Room := { frames := 3, cells := 0, slots := 0, locals := 120 }
set_option maxHeartbeats 8000000 in
theorem m_X8_numberN (l : Launch) (D : va_G) (k : KK) (sz : Nat) (o : Nat) (r : Nat → Nat) (fr : Value) (I : Nat → Int32) (L : Nat → Int64) (af : Int32) (v : Int32)  : Met l yX8_number (ws_ yX8_number cX8_number 4 (some .int)) rm_X8_numberN (pcx D k [.ref o, .int af, .int v] sz [(o, eMM r .null fr I L)] (fun _ => True)) (q_X8_numberN D k o r fr I L af v (va_A [(o, eMM r .null fr I L)] sz)) 0 0 (va_A [(o, eMM r .null fr I L)] sz) := by
  refine Met.start (Qc := q_X8_numberN D k o r fr I L af v) (by decide) (Nat.le_of_ble_eq_true rfl) ?_
  intro p e s m below meth c A hx hb hr hlocks hml hown hin hts hg hP hD hA hAn hS hY hsz ls hl
  have hown : s.vm.findClass RX8 = some m.cls := hown
  have hl : lv_has ls 4 [(0, .ref o), (1, .int af), (2, .int v)] := hl
  refine lv_aload_n hx hb dX8_number_0 rfl (lv_at hl 0 rfl) ?_
  refine lv_iconst (v := 0) hx hb dX8_number_1 ci_0 ?_
  refine va_put (D := D) (ci := 10) (v := .int 0) (C := RX8) (T := TX8) (N := 37) hx hb hts in_X8 tyX8 tyX8_ok nmX8 hown hg.1 hP hD hS 0 rfl rfl 0 (Nat.le_of_ble_eq_true rfl) (hts _ q1141) (fun _ h9 => h9) rfl ftX8_0 rfl rfl (Nat.le_of_ble_eq_true rfl) dX8_number_2 (fun H locs hP hD hS => ?_)
  replace hP : va_P D vwCl [(o, eMM r .null fr (upd I 0 0) L)] H := hP
  replace hD : va_D A [(o, eMM r .null fr (upd I 0 0) L)] := hD
  refine lv_aload_n hx hb dX8_number_5 rfl (lv_at hl 0 rfl) ?_
  refine va_get (D := D) (ci := 10) (v := .null) (C := RX8) (T := TX8) (N := 37) hx hb hts in_X8 hown hg.1 hP 0 rfl rfl 3 (Nat.le_of_ble_eq_true rfl) (hts _ q1144) (fun _ h9 => h9) rfl dX8_number_6 ?_
  refine lv_ifnonnullN hx hb dX8_number_9 ?_
  refine lv_aload_n hx hb dX8_number_12 rfl (lv_at hl 0 rfl) ?_
  refine lv_iconst (v := 1) hx hb dX8_number_13 ci_1 ?_
  refine xc_i (wc := [(o, eMM r .null fr (upd I 0 0) L)]) (wr := []) hP hD hS hA [0] [] rfl rfl rfl (by decide) (xrV ⟨hx, hb, hml, hown, hts⟩ hg (m_X8_refused l D k _ o r .null fr (upd I 0 0) L 1) hP hD [0] rfl rfl trivial (ci := 10) (q0 := 0) rfl rfl rfl q1265 q1267 qs39 q93 q1268 xo_X8_refused ⟨rfl, rfl⟩ ⟨Nat.le_of_ble_eq_true rfl, Nat.le_of_ble_eq_true rfl⟩ hl.1 (Nat.le_of_ble_eq_true rfl) dX8_number_14 ⟨Nat.le_of_ble_eq_true rfl, Nat.le_of_ble_eq_true rfl⟩ rfl) (fun r_ u1 H locs hw hP hD hS hk => ?_)
  obtain ⟨rfl, eu1⟩ := hw
  replace hP : va_P D vwCl [(o, eMM r .null fr (upd (upd (upd I 0 0) 1 u1.2.1) 2 u1.2.2) L)] H := hP.sub [0] rfl
  replace hD : va_D A [(o, eMM r .null fr (upd (upd (upd I 0 0) 1 u1.2.1) 2 u1.2.2) L)] := hD.sub [0] (by decide) rfl
  exact xret_i hx hb hr hlocks (Nat.le_of_ble_eq_true rfl) (Nat.le_of_ble_eq_true rfl) hS.2.2 dX8_number_17 (fun t ht => ⟨⟨u1.1, (u1.1, 0, u1.2.1, u1.2.2), rfl, ⟨rfl, (by subst eu1; exact rfl)⟩, by rw [ht]; exact hP, hD⟩, hS.F ht⟩)

def f_X8_led_j2 (sd : Nat → Int32) (x : Int32) (v5 : (Int32)) : (Int32) :=
  if v5 ≤ 0 then
    (sd x.toNatClampNeg)
  else
    0
def f_X8_led_j1 (I : Nat → Int32) (x : Int32) : (Int32) :=
  if x < 0 then
    1
  else
    if x < (I 18) then
      0
    else
      1
def f_X8_led (I : Nat → Int32) (sd : Nat → Int32) (x : Int32) : Int32 × Int32 :=
  let v5 := f_X8_led_j1 I x
  let v8 := f_X8_led_j2 sd x v5
  (v8, v5)
abbrev q_X8_led (D : va_G) (k : KK) (o : Nat) (r : Nat → Nat) (mv : Value) (fr : Value) (I : Nat → Int32) (L : Nat → Int64) (sd : Nat → Int32) (x : Int32) (st0 : Nat) (A : Nat → Prop) : Array Value → State → Outcome → State → Prop := va_Qi (fun (r_ : Int32) (u : Int32 × Int32) => r_ = u.1 ∧ u = f_X8_led I sd x) (bx D (fun u => [(o, eMM r mv fr (upd I 0 u.2) L), ((r 19), aI k 240 sd)]) A) A
abbrev rm_X8_led : Room := { frames := 1, cells := 0, slots := 0, locals := 40 }
theorem xo_X8_led : xok yX8_led 1 := by unfold xok; decide +kernel
set_option maxHeartbeats 8000000 in
theorem m_X8_led (l : Launch) (D : va_G) (k : KK) (sz : Nat) (o : Nat) (r : Nat → Nat) (mv : Value) (fr : Value) (I : Nat → Int32) (L : Nat → Int64) (sd : Nat → Int32) (x : Int32) (st0 : Nat) (hst : I 18 = nI st0) (hst4 : st0 ≤ 240) : Met l yX8_led (ws_ yX8_led cX8_led 2 (some .int)) rm_X8_led (pcx D k [.ref o, .int x] sz [(o, eMM r mv fr I L), ((r 19), aI k 240 sd)] (fun _ => True)) (q_X8_led D k o r mv fr I L sd x st0 (va_A [(o, eMM r mv fr I L), ((r 19), aI k 240 sd)] sz)) 0 0 (va_A [(o, eMM r mv fr I L), ((r 19), aI k 240 sd)] sz) := by
  refine Met.start (Qc := q_X8_led D k o r mv fr I L sd x st0) (by decide) (Nat.le_of_ble_eq_true rfl) ?_
  intro p e s m below meth c A hx hb hr hlocks hml hown hin hts hg hP hD hA hAn hS hY hsz ls hl
  have hown : s.vm.findClass RX8 = some m.cls := hown
  have hl : lv_has ls 2 [(0, .ref o), (1, .int x)] := hl
  refine lv_aload_n hx hb dX8_led_0 rfl (lv_at hl 0 rfl) ?_
  refine lv_iload_n hx hb dX8_led_1 rfl (lv_at hl 1 rfl) ?_
  have Jn1 : ∀ (v5 : (Int32)) (H : Heap) (locs : List Loc) (ls : Array Slot), v5 = f_X8_led_j1 I x → (v5 = 0 ∨ v5 = 1) → va_P D vwCl [(o, eMM r mv fr I L), ((r 19), aI k 240 sd)] H → va_D A [(o, eMM r mv fr I L), ((r 19), aI k 240 sd)] → va_S A s.heap H locs → lv_has ls 2 [(0, .ref o), (1, .int x)] → W p l e rm_X8_led s m ([.ref o, .int x] : List Value).toArray below meth c H locs 0 0 (MQ below (q_X8_led D k o r mv fr I L sd x st0 A) ([.ref o, .int x] : List Value).toArray s 0 0 A) (F0 m 18 ls [.int v5, .ref o]) := by
    intro v5 H locs ls ev5 bv5_0 hP hD hS hl
    refine va_put (D := D) (ci := 10) (v := .int v5) (C := RX8) (T := TX8) (N := 37) hx hb hts in_X8 tyX8 tyX8_ok nmX8 hown hg.1 hP hD hS 0 rfl rfl 0 (Nat.le_of_ble_eq_true rfl) (hts _ q1141) (fun _ h9 => h9) rfl ftX8_0 rfl rfl (Nat.le_of_ble_eq_true rfl) dX8_led_18 (fun H locs hP hD hS => ?_)
    replace hP : va_P D vwCl [(o, eMM r mv fr (upd I 0 v5) L), ((r 19), aI k 240 sd)] H := hP
    replace hD : va_D A [(o, eMM r mv fr (upd I 0 v5) L), ((r 19), aI k 240 sd)] := hD
    refine lv_aload_n hx hb dX8_led_21 rfl (lv_at hl 0 rfl) ?_
    refine va_get (D := D) (ci := 10) (v := .int v5) (C := RX8) (T := TX8) (N := 37) hx hb hts in_X8 hown hg.1 hP 0 rfl rfl 0 (Nat.le_of_ble_eq_true rfl) (hts _ q1141) (fun _ h9 => h9) rfl dX8_led_22 ?_
    have Jn2 : ∀ (v8 : (Int32)) (H : Heap) (locs : List Loc) (ls : Array Slot), v8 = f_X8_led_j2 sd x v5 → va_P D vwCl [(o, eMM r mv fr (upd I 0 v5) L), ((r 19), aI k 240 sd)] H → va_D A [(o, eMM r mv fr (upd I 0 v5) L), ((r 19), aI k 240 sd)] → va_S A s.heap H locs → lv_has ls 2 [(0, .ref o), (1, .int x)] → W p l e rm_X8_led s m ([.ref o, .int x] : List Value).toArray below meth c H locs 0 0 (MQ below (q_X8_led D k o r mv fr I L sd x st0 A) ([.ref o, .int x] : List Value).toArray s 0 0 A) (F0 m 38 ls [.int v8]) := by
      intro v8 H locs ls ev8 hP hD hS hl
      exact xret_i hx hb hr hlocks (Nat.le_of_ble_eq_true rfl) (Nat.le_of_ble_eq_true rfl) hS.2.2 dX8_led_38 (fun t ht => ⟨⟨v8, (v8, v5), rfl, ⟨rfl, (by subst ev8; subst ev5; exact rfl)⟩, by rw [ht]; exact hP, hD⟩, hS.F ht⟩)
    refine lv_if_le (tgt := 32) hx hb dX8_led_25 (by decide) (fun c9 => ?_) (fun c9 => ?_)
    · obtain ⟨hn_x, hb_x⟩ := m_led hst (by omega) (show (if x < 0 then 1 else if x < I 18 then 0 else (1 : Int32)) ≤ 0 by have h := c9; rw [ev5] at h; exact h)
      refine lv_aload_n hx hb dX8_led_32 rfl (lv_at hl 0 rfl) ?_
      refine va_get (D := D) (ci := 10) (v := .ref (r 19)) (C := RX8) (T := TX8) (N := 37) hx hb hts in_X8 hown hg.1 hP 0 rfl rfl 19 (Nat.le_of_ble_eq_true rfl) (hts _ q1160) (fun _ h9 => h9) rfl dX8_led_33 ?_
      refine lv_iload_n hx hb dX8_led_36 rfl (lv_at hl 1 rfl) ?_
      refine xa_iald hx hb hg hP 1 rfl hn_x (by first | omega | exact Nat.lt_of_lt_of_le (Nat.mod_lt _ (by omega)) (by omega)) (by omega) dX8_led_37 ?_
      exact Jn2 (sd x.toNatClampNeg) _ _ _ (by exact Eq.symm (Eq.trans (if_pos c9) (rfl))) hP hD hS (lv_sub hl [0, 1] rfl)
    · refine lv_iconst (v := 0) hx hb dX8_led_28 ci_0 ?_
      refine lv_goto (tgt := 38) hx hb dX8_led_29 (by decide) ?_
      exact Jn2 0 _ _ _ (by exact Eq.symm (Eq.trans (if_neg c9) (rfl))) hP hD hS (lv_sub hl [0, 1] rfl)
  refine lv_if_lt (tgt := 13) hx hb dX8_led_2 (by decide) (fun c10 => ?_) (fun c10 => ?_)
  · refine lv_iconst (v := 1) hx hb dX8_led_13 ci_1 ?_
    refine lv_goto (tgt := 18) hx hb dX8_led_14 (by decide) ?_
    exact Jn1 1 _ _ _ (by exact Eq.symm (Eq.trans (if_pos c10) (rfl))) (Or.inr rfl) hP hD hS (lv_sub hl [0, 1] rfl)
  · refine lv_iload_n hx hb dX8_led_5 rfl (lv_at hl 1 rfl) ?_
    refine lv_aload_n hx hb dX8_led_6 rfl (lv_at hl 0 rfl) ?_
    refine va_get (D := D) (ci := 10) (v := .int (I 18)) (C := RX8) (T := TX8) (N := 37) hx hb hts in_X8 hown hg.1 hP 0 rfl rfl 18 (Nat.le_of_ble_eq_true rfl) (hts _ q1159) (fun _ h9 => h9) rfl dX8_led_7 ?_
    refine lv_icmp_lt (tgt := 17) hx hb dX8_led_10 (by decide) (fun c11 => ?_) (fun c11 => ?_)
    · refine lv_iconst (v := 0) hx hb dX8_led_17 ci_0 ?_
      exact Jn1 0 _ _ _ (by exact Eq.symm (Eq.trans (if_neg c10) (Eq.trans (if_pos c11) (rfl)))) (Or.inl rfl) hP hD hS (lv_sub hl [0, 1] rfl)
    · refine lv_iconst (v := 1) hx hb dX8_led_13 ci_1 ?_
      refine lv_goto (tgt := 18) hx hb dX8_led_14 (by decide) ?_
      exact Jn1 1 _ _ _ (by exact Eq.symm (Eq.trans (if_neg c10) (Eq.trans (if_neg c11) (rfl)))) (Or.inr rfl) hP hD hS (lv_sub hl [0, 1] rfl)
