set_option maxRecDepth 100000
def f_X8_goes_j8 (x66 : Int32) : (Int32) :=
  if 0 ≤ x66 then
    x66
  else
    0
def f_X8_goes_j7 (MI : Nat → Int32) (f56 : Nat → Int32) : (Int32) :=
  if (MI 6) ≤ (f56 20) then
    (MI 6)
  else
    (f56 20)
def f_X8_goes_j6 (MI : Nat → Int32) (f49 : Nat → Int32) : (Int32) :=
  if (f49 20) ≤ (MI 5) then
    0
  else
    ((f49 20) - (MI 5))
def f_X8_goes_j5 (MI : Nat → Int32) (mbr : Nat → Int32) (mnx : Nat → Int32) (mhd : Nat → Int32) (ore : Nat) (nS : Nat) (f39 : Nat → Int32) : (Nat → Int32) :=
  if (f39 26) = 0 then
    let u82 := f_X8_grinds MI mbr mnx mhd f39 ore nS
    u82
  else
    let u81 := f_X8_digs f39 nS
    u81
def f_X8_goes_j4 (MI : Nat → Int32) (f33 : Nat → Int32) : (Int32) :=
  if (f33 28) ≤ (MI 0) then
    0
  else
    1
def f_X8_goes_j9 (mtn : Nat → Int32) (ore : Nat) (X1 : (Nat → Int32)) (i1 : Nat) : (Int32) :=
  if (X1 26) = 1 then
    0
  else
    ((X1 34) * (mtn ((5 * ore) + i1)))
def f_X8_goes_l2 (mtn : Nat → Int32) (ore : Nat) (i1 : Nat) (X1 : (Nat → Int32)) : (Nat → Int32) :=
  let v86 := f_X8_goes_j9 mtn ore X1 i1
  let x87 := ((X1 33) + v86)
  let f88 := upd X1 33 x87
  let x89 := ((f88 (0 + i1)) + (v86 + (f88 (5 + i1))))
  let f90 := upd f88 (0 + i1) x89
  let f91 := upd f90 (5 + i1) 0
  let f92 := upd f91 (10 + i1) 0
  f92
def f_X8_goes (MI : Nat → Int32) (mpr : Nat → Int32) (mbr : Nat → Int32) (mnx : Nat → Int32) (mhd : Nat → Int32) (mtn : Nat → Int32) (sv : Nat → Int32) (ore : Nat) (nP : Nat) (now : Nat) (nS : Nat) : (Nat → Int32) :=
  let X1 := itN (f_X8_goes_l2 mtn ore) nS sv
  let u32 := f_X8_sumOf X1 0 nS
  let f33 := upd X1 28 u32
  let v36 := f_X8_goes_j4 MI f33
  let f37 := upd f33 26 v36
  let f38 := upd f37 29 0
  let f39 := upd f38 30 0
  let v46 := f_X8_goes_j5 MI mbr mnx mhd ore nS f39
  let u47 := f_X8_sumOf v46 10 nS
  let x48 := ((v46 20) + u47)
  let f49 := upd v46 20 x48
  let v52 := f_X8_goes_j6 MI f49
  let x53 := ((f49 21) + v52)
  let f54 := upd f49 21 x53
  let x55 := ((f54 20) - v52)
  let f56 := upd f54 20 x55
  let v59 := f_X8_goes_j7 MI f56
  let x60 := ((f56 20) - v59)
  let f61 := upd f56 20 x60
  let x62 := ((f61 22) + v59)
  let f63 := upd f61 22 x62
  let x64 := ((f63 23) + ((MI 6) - v59))
  let f65 := upd f63 23 x64
  let x66 := ((MI 1) - (((MI 1) * (f65 28)) / (MI 0)))
  let v69 := f_X8_goes_j8 x66
  let f70 := upd f65 31 v69
  let x71 := ((f70 32) + ((f70 30) * (mpr (now % nP))))
  let f72 := upd f70 32 x71
  let x73 := ((f72 24) + 1)
  let f74 := upd f72 24 x73
  let x75 := ((f74 27) + 1)
  let f76 := upd f74 27 x75
  f76
abbrev q_X8_goes (D : va_G) (k : KK) (o : Nat) (r : Nat → Nat) (fr : Value) (I : Nat → Int32) (L : Nat → Int64) (ma : Nat) (mr : Nat → Nat) (MI : Nat → Int32) (mpr : Nat → Int32) (mbr : Nat → Int32) (mnx : Nat → Int32) (mhd : Nat → Int32) (mtn : Nat → Int32) (sa : Nat) (sv : Nat → Int32) (ore : Nat) (nP : Nat) (now : Nat) (nS : Nat) (A : Nat → Prop) : Array Value → State → Outcome → State → Prop := va_Qv (fun (u : (Nat → Int32)) => u = f_X8_goes MI mpr mbr mnx mhd mtn sv ore nP now nS) (bx D (fun u => [(o, eMM r (.ref ma) fr I L), (ma, eMI mr MI), ((mr 11), aI k 6 mpr), ((mr 12), aI k 5 mbr), ((mr 13), aI k 5 mnx), ((mr 14), aI k 4 mhd), ((mr 15), aI k 20 mtn), (sa, aI k 37 u)]) A) A
abbrev rm_X8_goes : Room := { frames := 3, cells := 0, slots := 0, locals := 120 }
theorem xo_X8_goes : xok yX8_goes 1 := by unfold xok; decide +kernel
set_option maxHeartbeats 8000000 in
theorem m_X8_goes (l : Launch) (D : va_G) (k : KK) (sz : Nat) (o : Nat) (r : Nat → Nat) (fr : Value) (I : Nat → Int32) (L : Nat → Int64) (ma : Nat) (mr : Nat → Nat) (MI : Nat → Int32) (mpr : Nat → Int32) (mbr : Nat → Int32) (mnx : Nat → Int32) (mhd : Nat → Int32) (mtn : Nat → Int32) (sa : Nat) (sv : Nat → Int32) (ore : Nat) (nP : Nat) (now : Nat) (nS : Nat) (hmS : MI 8 = nI nS) (hS2 : 2 ≤ nS) (hS5 : nS ≤ 5) (hore : ore < 4) (hs36 : sv 36 = nI ore) (hs27 : sv 27 = nI now) (hnb : now < 1000) (hpr : MI 7 = nI nP) (hP1 : 1 ≤ nP) (hP6 : nP ≤ 6) (hroom : ¬ MI 0 = 0) (hlife : ¬ MI 4 = 0) (hhard : ¬ 9 + mhd ore = 0) : Met l yX8_goes (ws_ yX8_goes cX8_goes 5 none) rm_X8_goes (pcx D k [.ref o, .ref sa] sz [(o, eMM r (.ref ma) fr I L), (ma, eMI mr MI), ((mr 11), aI k 6 mpr), ((mr 12), aI k 5 mbr), ((mr 13), aI k 5 mnx), ((mr 14), aI k 4 mhd), ((mr 15), aI k 20 mtn), (sa, aI k 37 sv)] (fun _ => True)) (q_X8_goes D k o r fr I L ma mr MI mpr mbr mnx mhd mtn sa sv ore nP now nS (va_A [(o, eMM r (.ref ma) fr I L), (ma, eMI mr MI), ((mr 11), aI k 6 mpr), ((mr 12), aI k 5 mbr), ((mr 13), aI k 5 mnx), ((mr 14), aI k 4 mhd), ((mr 15), aI k 20 mtn), (sa, aI k 37 sv)] sz)) 0 0 (va_A [(o, eMM r (.ref ma) fr I L), (ma, eMI mr MI), ((mr 11), aI k 6 mpr), ((mr 12), aI k 5 mbr), ((mr 13), aI k 5 mnx), ((mr 14), aI k 4 mhd), ((mr 15), aI k 20 mtn), (sa, aI k 37 sv)] sz) := by
  refine Met.start (Qc := q_X8_goes D k o r fr I L ma mr MI mpr mbr mnx mhd mtn sa sv ore nP now nS) (by decide) (Nat.le_of_ble_eq_true rfl) ?_
  intro p e s m below meth c A hx hb hr hlocks hml hown hin hts hg hP hD hA hAn hS hY hsz ls hl
  have hown : s.vm.findClass RX8 = some m.cls := hown
  have hl : lv_has ls 5 [(0, .ref o), (1, .ref sa)] := hl
  refine lv_iconst (v := 0) hx hb dX8_goes_0 ci_0 ?_
  refine lv_istore_n (lv' := [(2, .int 0), (0, .ref o), (1, .ref sa)]) hx hb dX8_goes_1 rfl hl (Nat.le_of_ble_eq_true rfl) rfl (fun ls hl => ?_)
  have loop1 : ∀ (n1 i1 : Nat) (X1 : (Nat → Int32)) (H : Heap) (locs : List Loc) (ls : Array Slot), i1 + n1 = nS → X1 = itN (f_X8_goes_l2 mtn ore) i1 sv → va_P D vwCl [(o, eMM r (.ref ma) fr I L), (ma, eMI mr MI), ((mr 11), aI k 6 mpr), ((mr 12), aI k 5 mbr), ((mr 13), aI k 5 mnx), ((mr 14), aI k 4 mhd), ((mr 15), aI k 20 mtn), (sa, aI k 37 X1)] H → va_D A [(o, eMM r (.ref ma) fr I L), (ma, eMI mr MI), ((mr 11), aI k 6 mpr), ((mr 12), aI k 5 mbr), ((mr 13), aI k 5 mnx), ((mr 14), aI k 4 mhd), ((mr 15), aI k 20 mtn), (sa, aI k 37 X1)] → va_S A s.heap H locs → lv_has ls 5 [(2, .int (nI i1)), (0, .ref o), (1, .ref sa)] → W p l e rm_X8_goes s m ([.ref o, .ref sa] : List Value).toArray below meth c H locs 0 0 (MQ below (q_X8_goes D k o r fr I L ma mr MI mpr mbr mnx mhd mtn sa sv ore nP now nS A) ([.ref o, .ref sa] : List Value).toArray s 0 0 A) (F0 m 2 ls []) := by
    intro n1
    induction n1 with
    | zero =>
      intro i1 X1 H locs ls hn1 eX1 hP hD hS hl
      have hi1 : i1 = nS := by omega
      rw [hi1] at eX1
      refine lv_iload_n hx hb dX8_goes_2 rfl (lv_at hl 0 rfl) ?_
      refine lv_aload_n hx hb dX8_goes_3 rfl (lv_at hl 1 rfl) ?_
      refine va_get (D := D) (ci := 10) (v := .ref ma) (C := RX8) (T := TX8) (N := 37) hx hb hts in_X8 hown hg.1 hP 0 rfl rfl 3 (Nat.le_of_ble_eq_true rfl) (hts _ q1144) (fun _ h9 => h9) rfl dX8_goes_4 ?_
      refine va_getN (D := D) (ci := 11) (v := .int (MI 8)) (C := RX13) (T := TX13) (N := 18) hx hb hts in_X13 hown hg.1 hP 1 rfl rfl 8 (Nat.le_of_ble_eq_true rfl) (nwF_191 hg) (fun _ h9 => h9) rfl dX8_goes_7 ?_
      refine lv_icmp_ge (tgt := 89) hx hb dX8_goes_10 (by decide) (fun _ => ?_) (fun c => absurd (xle_t hmS rfl (by omega) (by omega)) c)
      have h36X1 : X1 36 = nI ore := by
        rw [eX1]
        refine itN_pres (P := fun Y : Nat → Int32 => Y 36 = nI ore) (N := nS) hs36 (fun i Y hi hY => ?_) _ (by omega)
        simp only [f_X8_goes_l2, upd]
        rw [if_neg (by omega), if_neg (by omega), if_neg (by omega), if_neg (by omega)]
        exact hY
      have h27X1 : X1 27 = nI now := by
        rw [eX1]
        refine itN_pres (P := fun Y : Nat → Int32 => Y 27 = nI now) (N := nS) hs27 (fun i Y hi hY => ?_) _ (by omega)
        simp only [f_X8_goes_l2, upd]
        rw [if_neg (by omega), if_neg (by omega), if_neg (by omega), if_neg (by omega)]
        exact hY
      refine lv_aload_n hx hb dX8_goes_89 rfl (lv_at hl 2 rfl) ?_
      refine lv_bipush (v := 28) hx hb dX8_goes_90 cb_28 ?_
      refine lv_aload_n hx hb dX8_goes_92 rfl (lv_at hl 1 rfl) ?_
      refine lv_aload_n hx hb dX8_goes_93 rfl (lv_at hl 2 rfl) ?_
      refine lv_iconst (v := 0) hx hb dX8_goes_94 ci_0 ?_
      refine xc_i (wc := [(o, eMM r (.ref ma) fr I L), (ma, eMI mr MI), (sa, aI k 37 X1)]) (wr := [((mr 11), aI k 6 mpr), ((mr 12), aI k 5 mbr), ((mr 13), aI k 5 mnx), ((mr 14), aI k 4 mhd), ((mr 15), aI k 20 mtn)]) hP hD hS hA [0, 1, 7] [2, 3, 4, 5, 6] rfl rfl rfl (by decide) (xrV ⟨hx, hb, hml, hown, hts⟩ hg (m_X8_sumOf l D k _ o r fr I L ma mr MI sa X1 0 0 nS hmS hS2 hS5 xl_0 (by first | assumption | omega)) hP hD [0, 1, 7] rfl rfl trivial (ci := 10) (q0 := 0) rfl rfl rfl q1522 q1524 qs65 q93 q1525 xo_X8_sumOf ⟨rfl, rfl⟩ ⟨Nat.le_of_ble_eq_true rfl, Nat.le_of_ble_eq_true rfl⟩ hl.1 (Nat.le_of_ble_eq_true rfl) dX8_goes_95 ⟨Nat.le_of_ble_eq_true rfl, Nat.le_of_ble_eq_true rfl⟩ rfl) (fun u32 r_ H locs hw hP hD hS hk => ?_)
      obtain ⟨rfl, eu32⟩ := hw
      replace hP : va_P D vwCl [(o, eMM r (.ref ma) fr I L), (ma, eMI mr MI), ((mr 11), aI k 6 mpr), ((mr 12), aI k 5 mbr), ((mr 13), aI k 5 mnx), ((mr 14), aI k 4 mhd), ((mr 15), aI k 20 mtn), (sa, aI k 37 X1)] H := hP.sub [5, 6, 0, 1, 2, 3, 4, 7] rfl
      replace hD : va_D A [(o, eMM r (.ref ma) fr I L), (ma, eMI mr MI), ((mr 11), aI k 6 mpr), ((mr 12), aI k 5 mbr), ((mr 13), aI k 5 mnx), ((mr 14), aI k 4 mhd), ((mr 15), aI k 20 mtn), (sa, aI k 37 X1)] := hD.sub [5, 6, 0, 1, 2, 3, 4, 7] (by decide) rfl
      refine xa_iast hx hb hg hP hD hS 7 rfl xl_28 (by omega) (by omega) dX8_goes_98 (fun f33 H locs ef33 hP hD hS => ?_)
      replace hP : va_P D vwCl [(o, eMM r (.ref ma) fr I L), (ma, eMI mr MI), ((mr 11), aI k 6 mpr), ((mr 12), aI k 5 mbr), ((mr 13), aI k 5 mnx), ((mr 14), aI k 4 mhd), ((mr 15), aI k 20 mtn), (sa, aI k 37 f33)] H := hP
      replace hD : va_D A [(o, eMM r (.ref ma) fr I L), (ma, eMI mr MI), ((mr 11), aI k 6 mpr), ((mr 12), aI k 5 mbr), ((mr 13), aI k 5 mnx), ((mr 14), aI k 4 mhd), ((mr 15), aI k 20 mtn), (sa, aI k 37 f33)] := hD
      refine lv_aload_n hx hb dX8_goes_99 rfl (lv_at hl 2 rfl) ?_
      refine lv_bipush (v := 26) hx hb dX8_goes_100 cb_26 ?_
      refine lv_aload_n hx hb dX8_goes_102 rfl (lv_at hl 2 rfl) ?_
      refine lv_bipush (v := 28) hx hb dX8_goes_103 cb_28 ?_
      refine xa_iald hx hb hg hP 7 rfl xl_28 (by first | omega | exact Nat.lt_of_lt_of_le (Nat.mod_lt _ (by omega)) (by omega)) (by omega) dX8_goes_105 ?_
      refine lv_aload_n hx hb dX8_goes_106 rfl (lv_at hl 1 rfl) ?_
      refine va_get (D := D) (ci := 10) (v := .ref ma) (C := RX8) (T := TX8) (N := 37) hx hb hts in_X8 hown hg.1 hP 0 rfl rfl 3 (Nat.le_of_ble_eq_true rfl) (hts _ q1144) (fun _ h9 => h9) rfl dX8_goes_107 ?_
      refine va_getN (D := D) (ci := 11) (v := .int (MI 0)) (C := RX13) (T := TX13) (N := 18) hx hb hts in_X13 hown hg.1 hP 1 rfl rfl 0 (Nat.le_of_ble_eq_true rfl) (nwF_176 hg) (fun _ h9 => h9) rfl dX8_goes_110 ?_
      have Jn4 : ∀ (v36 : (Int32)) (H : Heap) (locs : List Loc) (ls : Array Slot), v36 = f_X8_goes_j4 MI f33 → (v36 = 0 ∨ v36 = 1) → va_P D vwCl [(o, eMM r (.ref ma) fr I L), (ma, eMI mr MI), ((mr 11), aI k 6 mpr), ((mr 12), aI k 5 mbr), ((mr 13), aI k 5 mnx), ((mr 14), aI k 4 mhd), ((mr 15), aI k 20 mtn), (sa, aI k 37 f33)] H → va_D A [(o, eMM r (.ref ma) fr I L), (ma, eMI mr MI), ((mr 11), aI k 6 mpr), ((mr 12), aI k 5 mbr), ((mr 13), aI k 5 mnx), ((mr 14), aI k 4 mhd), ((mr 15), aI k 20 mtn), (sa, aI k 37 f33)] → va_S A s.heap H locs → lv_has ls 5 [(2, .int (nI i1)), (0, .ref o), (1, .ref sa)] → W p l e rm_X8_goes s m ([.ref o, .ref sa] : List Value).toArray below meth c H locs 0 0 (MQ below (q_X8_goes D k o r fr I L ma mr MI mpr mbr mnx mhd mtn sa sv ore nP now nS A) ([.ref o, .ref sa] : List Value).toArray s 0 0 A) (F0 m 121 ls [.int v36, .int 26, .ref sa]) := by
        intro v36 H locs ls ev36 bv36_0 hP hD hS hl
        refine xa_iast hx hb hg hP hD hS 7 rfl xl_26 (by omega) (by omega) dX8_goes_121 (fun f37 H locs ef37 hP hD hS => ?_)
        replace hP : va_P D vwCl [(o, eMM r (.ref ma) fr I L), (ma, eMI mr MI), ((mr 11), aI k 6 mpr), ((mr 12), aI k 5 mbr), ((mr 13), aI k 5 mnx), ((mr 14), aI k 4 mhd), ((mr 15), aI k 20 mtn), (sa, aI k 37 f37)] H := hP
        replace hD : va_D A [(o, eMM r (.ref ma) fr I L), (ma, eMI mr MI), ((mr 11), aI k 6 mpr), ((mr 12), aI k 5 mbr), ((mr 13), aI k 5 mnx), ((mr 14), aI k 4 mhd), ((mr 15), aI k 20 mtn), (sa, aI k 37 f37)] := hD
        refine lv_aload_n hx hb dX8_goes_122 rfl (lv_at hl 2 rfl) ?_
        refine lv_bipush (v := 29) hx hb dX8_goes_123 cb_29 ?_
        refine lv_iconst (v := 0) hx hb dX8_goes_125 ci_0 ?_
        refine xa_iast hx hb hg hP hD hS 7 rfl xl_29 (by omega) (by omega) dX8_goes_126 (fun f38 H locs ef38 hP hD hS => ?_)
        replace hP : va_P D vwCl [(o, eMM r (.ref ma) fr I L), (ma, eMI mr MI), ((mr 11), aI k 6 mpr), ((mr 12), aI k 5 mbr), ((mr 13), aI k 5 mnx), ((mr 14), aI k 4 mhd), ((mr 15), aI k 20 mtn), (sa, aI k 37 f38)] H := hP
        replace hD : va_D A [(o, eMM r (.ref ma) fr I L), (ma, eMI mr MI), ((mr 11), aI k 6 mpr), ((mr 12), aI k 5 mbr), ((mr 13), aI k 5 mnx), ((mr 14), aI k 4 mhd), ((mr 15), aI k 20 mtn), (sa, aI k 37 f38)] := hD
        refine lv_aload_n hx hb dX8_goes_127 rfl (lv_at hl 2 rfl) ?_
        refine lv_bipush (v := 30) hx hb dX8_goes_128 cb_30 ?_
        refine lv_iconst (v := 0) hx hb dX8_goes_130 ci_0 ?_
        refine xa_iast hx hb hg hP hD hS 7 rfl xl_30 (by omega) (by omega) dX8_goes_131 (fun f39 H locs ef39 hP hD hS => ?_)
        replace hP : va_P D vwCl [(o, eMM r (.ref ma) fr I L), (ma, eMI mr MI), ((mr 11), aI k 6 mpr), ((mr 12), aI k 5 mbr), ((mr 13), aI k 5 mnx), ((mr 14), aI k 4 mhd), ((mr 15), aI k 20 mtn), (sa, aI k 37 f39)] H := hP
        replace hD : va_D A [(o, eMM r (.ref ma) fr I L), (ma, eMI mr MI), ((mr 11), aI k 6 mpr), ((mr 12), aI k 5 mbr), ((mr 13), aI k 5 mnx), ((mr 14), aI k 4 mhd), ((mr 15), aI k 20 mtn), (sa, aI k 37 f39)] := hD
        refine lv_aload_n hx hb dX8_goes_132 rfl (lv_at hl 2 rfl) ?_
        refine lv_bipush (v := 26) hx hb dX8_goes_133 cb_26 ?_
        refine xa_iald hx hb hg hP 7 rfl xl_26 (by first | omega | exact Nat.lt_of_lt_of_le (Nat.mod_lt _ (by omega)) (by omega)) (by omega) dX8_goes_135 ?_
        have Jn5 : ∀ (v46 : (Nat → Int32)) (H : Heap) (locs : List Loc) (ls : Array Slot), v46 = f_X8_goes_j5 MI mbr mnx mhd ore nS f39 → va_P D vwCl [(o, eMM r (.ref ma) fr I L), (ma, eMI mr MI), ((mr 11), aI k 6 mpr), ((mr 12), aI k 5 mbr), ((mr 13), aI k 5 mnx), ((mr 14), aI k 4 mhd), ((mr 15), aI k 20 mtn), (sa, aI k 37 v46)] H → va_D A [(o, eMM r (.ref ma) fr I L), (ma, eMI mr MI), ((mr 11), aI k 6 mpr), ((mr 12), aI k 5 mbr), ((mr 13), aI k 5 mnx), ((mr 14), aI k 4 mhd), ((mr 15), aI k 20 mtn), (sa, aI k 37 v46)] → va_S A s.heap H locs → lv_has ls 5 [(2, .int (nI i1)), (0, .ref o), (1, .ref sa)] → W p l e rm_X8_goes s m ([.ref o, .ref sa] : List Value).toArray below meth c H locs 0 0 (MQ below (q_X8_goes D k o r fr I L ma mr MI mpr mbr mnx mhd mtn sa sv ore nP now nS A) ([.ref o, .ref sa] : List Value).toArray s 0 0 A) (F0 m 152 ls []) := by
          intro v46 H locs ls ev46 hP hD hS hl
          have h27v46 : v46 27 = nI now := by
            rw [ev46]
            simp only [f_X8_goes_j5]
            split
            · exact (mg_keep hS5 27 (by decide) (by decide) (by decide)).trans ((show f39 27 = f38 27 by rw [ef39]; exact pk_un (by decide)).trans ((show f38 27 = f37 27 by rw [ef38]; exact pk_un (by decide)).trans ((show f37 27 = f33 27 by rw [ef37]; exact pk_un (by decide)).trans ((show f33 27 = X1 27 by rw [ef33]; exact pk_un (by decide)).trans h27X1))))
            · exact (md_keep hS5 27 (by decide)).trans ((show f39 27 = f38 27 by rw [ef39]; exact pk_un (by decide)).trans ((show f38 27 = f37 27 by rw [ef38]; exact pk_un (by decide)).trans ((show f37 27 = f33 27 by rw [ef37]; exact pk_un (by decide)).trans ((show f33 27 = X1 27 by rw [ef33]; exact pk_un (by decide)).trans h27X1))))
          refine lv_aload_n hx hb dX8_goes_152 rfl (lv_at hl 2 rfl) ?_
          refine lv_bipush (v := 20) hx hb dX8_goes_153 cb_20 ?_
          refine lv_dup2_11 hx hb dX8_goes_155 rfl rfl ?_
          refine xa_iald hx hb hg hP 7 rfl xl_20 (by first | omega | exact Nat.lt_of_lt_of_le (Nat.mod_lt _ (by omega)) (by omega)) (by omega) dX8_goes_156 ?_
          refine lv_aload_n hx hb dX8_goes_157 rfl (lv_at hl 1 rfl) ?_
          refine lv_aload_n hx hb dX8_goes_158 rfl (lv_at hl 2 rfl) ?_
          refine lv_bipush (v := 10) hx hb dX8_goes_159 cb_10 ?_
          refine xc_i (wc := [(o, eMM r (.ref ma) fr I L), (ma, eMI mr MI), (sa, aI k 37 v46)]) (wr := [((mr 11), aI k 6 mpr), ((mr 12), aI k 5 mbr), ((mr 13), aI k 5 mnx), ((mr 14), aI k 4 mhd), ((mr 15), aI k 20 mtn)]) hP hD hS hA [0, 1, 7] [2, 3, 4, 5, 6] rfl rfl rfl (by decide) (xrV ⟨hx, hb, hml, hown, hts⟩ hg (m_X8_sumOf l D k _ o r fr I L ma mr MI sa v46 10 10 nS hmS hS2 hS5 xl_10 (by first | assumption | omega)) hP hD [0, 1, 7] rfl rfl trivial (ci := 10) (q0 := 0) rfl rfl rfl q1522 q1524 qs65 q93 q1525 xo_X8_sumOf ⟨rfl, rfl⟩ ⟨Nat.le_of_ble_eq_true rfl, Nat.le_of_ble_eq_true rfl⟩ hl.1 (Nat.le_of_ble_eq_true rfl) dX8_goes_161 ⟨Nat.le_of_ble_eq_true rfl, Nat.le_of_ble_eq_true rfl⟩ rfl) (fun u47 r_ H locs hw hP hD hS hk => ?_)
          obtain ⟨rfl, eu47⟩ := hw
          replace hP : va_P D vwCl [(o, eMM r (.ref ma) fr I L), (ma, eMI mr MI), ((mr 11), aI k 6 mpr), ((mr 12), aI k 5 mbr), ((mr 13), aI k 5 mnx), ((mr 14), aI k 4 mhd), ((mr 15), aI k 20 mtn), (sa, aI k 37 v46)] H := hP.sub [5, 6, 0, 1, 2, 3, 4, 7] rfl
          replace hD : va_D A [(o, eMM r (.ref ma) fr I L), (ma, eMI mr MI), ((mr 11), aI k 6 mpr), ((mr 12), aI k 5 mbr), ((mr 13), aI k 5 mnx), ((mr 14), aI k 4 mhd), ((mr 15), aI k 20 mtn), (sa, aI k 37 v46)] := hD.sub [5, 6, 0, 1, 2, 3, 4, 7] (by decide) rfl
          refine lv_iadd hx hb dX8_goes_164 ?_
          refine lv_topi (fun x48 ex48 => ?_)
          refine xa_iast hx hb hg hP hD hS 7 rfl xl_20 (by omega) (by omega) dX8_goes_165 (fun f49 H locs ef49 hP hD hS => ?_)
          replace hP : va_P D vwCl [(o, eMM r (.ref ma) fr I L), (ma, eMI mr MI), ((mr 11), aI k 6 mpr), ((mr 12), aI k 5 mbr), ((mr 13), aI k 5 mnx), ((mr 14), aI k 4 mhd), ((mr 15), aI k 20 mtn), (sa, aI k 37 f49)] H := hP
          replace hD : va_D A [(o, eMM r (.ref ma) fr I L), (ma, eMI mr MI), ((mr 11), aI k 6 mpr), ((mr 12), aI k 5 mbr), ((mr 13), aI k 5 mnx), ((mr 14), aI k 4 mhd), ((mr 15), aI k 20 mtn), (sa, aI k 37 f49)] := hD
          refine lv_aload_n hx hb dX8_goes_166 rfl (lv_at hl 2 rfl) ?_
          refine lv_bipush (v := 20) hx hb dX8_goes_167 cb_20 ?_
          refine xa_iald hx hb hg hP 7 rfl xl_20 (by first | omega | exact Nat.lt_of_lt_of_le (Nat.mod_lt _ (by omega)) (by omega)) (by omega) dX8_goes_169 ?_
          refine lv_aload_n hx hb dX8_goes_170 rfl (lv_at hl 1 rfl) ?_
          refine va_get (D := D) (ci := 10) (v := .ref ma) (C := RX8) (T := TX8) (N := 37) hx hb hts in_X8 hown hg.1 hP 0 rfl rfl 3 (Nat.le_of_ble_eq_true rfl) (hts _ q1144) (fun _ h9 => h9) rfl dX8_goes_171 ?_
          refine va_getN (D := D) (ci := 11) (v := .int (MI 5)) (C := RX13) (T := TX13) (N := 18) hx hb hts in_X13 hown hg.1 hP 1 rfl rfl 5 (Nat.le_of_ble_eq_true rfl) (nwF_186 hg) (fun _ h9 => h9) rfl dX8_goes_174 ?_
          have Jn6 : ∀ (v52 : (Int32)) (H : Heap) (locs : List Loc) (ls : Array Slot), v52 = f_X8_goes_j6 MI f49 → va_P D vwCl [(o, eMM r (.ref ma) fr I L), (ma, eMI mr MI), ((mr 11), aI k 6 mpr), ((mr 12), aI k 5 mbr), ((mr 13), aI k 5 mnx), ((mr 14), aI k 4 mhd), ((mr 15), aI k 20 mtn), (sa, aI k 37 f49)] H → va_D A [(o, eMM r (.ref ma) fr I L), (ma, eMI mr MI), ((mr 11), aI k 6 mpr), ((mr 12), aI k 5 mbr), ((mr 13), aI k 5 mnx), ((mr 14), aI k 4 mhd), ((mr 15), aI k 20 mtn), (sa, aI k 37 f49)] → va_S A s.heap H locs → lv_has ls 5 [(2, .int (nI i1)), (0, .ref o), (1, .ref sa)] → W p l e rm_X8_goes s m ([.ref o, .ref sa] : List Value).toArray below meth c H locs 0 0 (MQ below (q_X8_goes D k o r fr I L ma mr MI mpr mbr mnx mhd mtn sa sv ore nP now nS A) ([.ref o, .ref sa] : List Value).toArray s 0 0 A) (F0 m 196 ls [.int v52]) := by
            intro v52 H locs ls ev52 hP hD hS hl
            refine lv_istore_n (lv' := [(2, .int v52), (0, .ref o), (1, .ref sa)]) hx hb dX8_goes_196 rfl hl (Nat.le_of_ble_eq_true rfl) rfl (fun ls hl => ?_)
            refine lv_aload_n hx hb dX8_goes_197 rfl (lv_at hl 2 rfl) ?_
            refine lv_bipush (v := 21) hx hb dX8_goes_198 cb_21 ?_
            refine lv_dup2_11 hx hb dX8_goes_200 rfl rfl ?_
            refine xa_iald hx hb hg hP 7 rfl xl_21 (by first | omega | exact Nat.lt_of_lt_of_le (Nat.mod_lt _ (by omega)) (by omega)) (by omega) dX8_goes_201 ?_
            refine lv_iload_n hx hb dX8_goes_202 rfl (lv_at hl 0 rfl) ?_
            refine lv_iadd hx hb dX8_goes_203 ?_
            refine lv_topi (fun x53 ex53 => ?_)
            refine xa_iast hx hb hg hP hD hS 7 rfl xl_21 (by omega) (by omega) dX8_goes_204 (fun f54 H locs ef54 hP hD hS => ?_)
            replace hP : va_P D vwCl [(o, eMM r (.ref ma) fr I L), (ma, eMI mr MI), ((mr 11), aI k 6 mpr), ((mr 12), aI k 5 mbr), ((mr 13), aI k 5 mnx), ((mr 14), aI k 4 mhd), ((mr 15), aI k 20 mtn), (sa, aI k 37 f54)] H := hP
            replace hD : va_D A [(o, eMM r (.ref ma) fr I L), (ma, eMI mr MI), ((mr 11), aI k 6 mpr), ((mr 12), aI k 5 mbr), ((mr 13), aI k 5 mnx), ((mr 14), aI k 4 mhd), ((mr 15), aI k 20 mtn), (sa, aI k 37 f54)] := hD
            refine lv_aload_n hx hb dX8_goes_205 rfl (lv_at hl 2 rfl) ?_
            refine lv_bipush (v := 20) hx hb dX8_goes_206 cb_20 ?_
            refine lv_dup2_11 hx hb dX8_goes_208 rfl rfl ?_
            refine xa_iald hx hb hg hP 7 rfl xl_20 (by first | omega | exact Nat.lt_of_lt_of_le (Nat.mod_lt _ (by omega)) (by omega)) (by omega) dX8_goes_209 ?_
            refine lv_iload_n hx hb dX8_goes_210 rfl (lv_at hl 0 rfl) ?_
            refine lv_isub hx hb dX8_goes_211 ?_
            refine lv_topi (fun x55 ex55 => ?_)
            refine xa_iast hx hb hg hP hD hS 7 rfl xl_20 (by omega) (by omega) dX8_goes_212 (fun f56 H locs ef56 hP hD hS => ?_)
            replace hP : va_P D vwCl [(o, eMM r (.ref ma) fr I L), (ma, eMI mr MI), ((mr 11), aI k 6 mpr), ((mr 12), aI k 5 mbr), ((mr 13), aI k 5 mnx), ((mr 14), aI k 4 mhd), ((mr 15), aI k 20 mtn), (sa, aI k 37 f56)] H := hP
            replace hD : va_D A [(o, eMM r (.ref ma) fr I L), (ma, eMI mr MI), ((mr 11), aI k 6 mpr), ((mr 12), aI k 5 mbr), ((mr 13), aI k 5 mnx), ((mr 14), aI k 4 mhd), ((mr 15), aI k 20 mtn), (sa, aI k 37 f56)] := hD
            refine lv_aload_n hx hb dX8_goes_213 rfl (lv_at hl 2 rfl) ?_
            refine lv_bipush (v := 20) hx hb dX8_goes_214 cb_20 ?_
            refine xa_iald hx hb hg hP 7 rfl xl_20 (by first | omega | exact Nat.lt_of_lt_of_le (Nat.mod_lt _ (by omega)) (by omega)) (by omega) dX8_goes_216 ?_
            refine lv_aload_n hx hb dX8_goes_217 rfl (lv_at hl 1 rfl) ?_
            refine va_get (D := D) (ci := 10) (v := .ref ma) (C := RX8) (T := TX8) (N := 37) hx hb hts in_X8 hown hg.1 hP 0 rfl rfl 3 (Nat.le_of_ble_eq_true rfl) (hts _ q1144) (fun _ h9 => h9) rfl dX8_goes_218 ?_
            refine va_getN (D := D) (ci := 11) (v := .int (MI 6)) (C := RX13) (T := TX13) (N := 18) hx hb hts in_X13 hown hg.1 hP 1 rfl rfl 6 (Nat.le_of_ble_eq_true rfl) (nwF_252 hg) (fun _ h9 => h9) rfl dX8_goes_221 ?_
            have Jn7 : ∀ (v59 : (Int32)) (H : Heap) (locs : List Loc) (ls : Array Slot), v59 = f_X8_goes_j7 MI f56 → va_P D vwCl [(o, eMM r (.ref ma) fr I L), (ma, eMI mr MI), ((mr 11), aI k 6 mpr), ((mr 12), aI k 5 mbr), ((mr 13), aI k 5 mnx), ((mr 14), aI k 4 mhd), ((mr 15), aI k 20 mtn), (sa, aI k 37 f56)] H → va_D A [(o, eMM r (.ref ma) fr I L), (ma, eMI mr MI), ((mr 11), aI k 6 mpr), ((mr 12), aI k 5 mbr), ((mr 13), aI k 5 mnx), ((mr 14), aI k 4 mhd), ((mr 15), aI k 20 mtn), (sa, aI k 37 f56)] → va_S A s.heap H locs → lv_has ls 5 [(2, .int v52), (0, .ref o), (1, .ref sa)] → W p l e rm_X8_goes s m ([.ref o, .ref sa] : List Value).toArray below meth c H locs 0 0 (MQ below (q_X8_goes D k o r fr I L ma mr MI mpr mbr mnx mhd mtn sa sv ore nP now nS A) ([.ref o, .ref sa] : List Value).toArray s 0 0 A) (F0 m 241 ls [.int v59]) := by
              intro v59 H locs ls ev59 hP hD hS hl
              refine lv_istore_n (lv' := [(3, .int v59), (2, .int v52), (0, .ref o), (1, .ref sa)]) hx hb dX8_goes_241 rfl hl (Nat.le_of_ble_eq_true rfl) rfl (fun ls hl => ?_)
              refine lv_aload_n hx hb dX8_goes_242 rfl (lv_at hl 3 rfl) ?_
              refine lv_bipush (v := 20) hx hb dX8_goes_243 cb_20 ?_
              refine lv_dup2_11 hx hb dX8_goes_245 rfl rfl ?_
              refine xa_iald hx hb hg hP 7 rfl xl_20 (by first | omega | exact Nat.lt_of_lt_of_le (Nat.mod_lt _ (by omega)) (by omega)) (by omega) dX8_goes_246 ?_
              refine lv_iload_n hx hb dX8_goes_247 rfl (lv_at hl 0 rfl) ?_
              refine lv_isub hx hb dX8_goes_248 ?_
              refine lv_topi (fun x60 ex60 => ?_)
              refine xa_iast hx hb hg hP hD hS 7 rfl xl_20 (by omega) (by omega) dX8_goes_249 (fun f61 H locs ef61 hP hD hS => ?_)
              replace hP : va_P D vwCl [(o, eMM r (.ref ma) fr I L), (ma, eMI mr MI), ((mr 11), aI k 6 mpr), ((mr 12), aI k 5 mbr), ((mr 13), aI k 5 mnx), ((mr 14), aI k 4 mhd), ((mr 15), aI k 20 mtn), (sa, aI k 37 f61)] H := hP
              replace hD : va_D A [(o, eMM r (.ref ma) fr I L), (ma, eMI mr MI), ((mr 11), aI k 6 mpr), ((mr 12), aI k 5 mbr), ((mr 13), aI k 5 mnx), ((mr 14), aI k 4 mhd), ((mr 15), aI k 20 mtn), (sa, aI k 37 f61)] := hD
              refine lv_aload_n hx hb dX8_goes_250 rfl (lv_at hl 3 rfl) ?_
              refine lv_bipush (v := 22) hx hb dX8_goes_251 cb_22 ?_
              refine lv_dup2_11 hx hb dX8_goes_253 rfl rfl ?_
              refine xa_iald hx hb hg hP 7 rfl xl_22 (by first | omega | exact Nat.lt_of_lt_of_le (Nat.mod_lt _ (by omega)) (by omega)) (by omega) dX8_goes_254 ?_
              refine lv_iload_n hx hb dX8_goes_255 rfl (lv_at hl 0 rfl) ?_
              refine lv_iadd hx hb dX8_goes_256 ?_
              refine lv_topi (fun x62 ex62 => ?_)
              refine xa_iast hx hb hg hP hD hS 7 rfl xl_22 (by omega) (by omega) dX8_goes_257 (fun f63 H locs ef63 hP hD hS => ?_)
              replace hP : va_P D vwCl [(o, eMM r (.ref ma) fr I L), (ma, eMI mr MI), ((mr 11), aI k 6 mpr), ((mr 12), aI k 5 mbr), ((mr 13), aI k 5 mnx), ((mr 14), aI k 4 mhd), ((mr 15), aI k 20 mtn), (sa, aI k 37 f63)] H := hP
              replace hD : va_D A [(o, eMM r (.ref ma) fr I L), (ma, eMI mr MI), ((mr 11), aI k 6 mpr), ((mr 12), aI k 5 mbr), ((mr 13), aI k 5 mnx), ((mr 14), aI k 4 mhd), ((mr 15), aI k 20 mtn), (sa, aI k 37 f63)] := hD
              refine lv_aload_n hx hb dX8_goes_258 rfl (lv_at hl 3 rfl) ?_
              refine lv_bipush (v := 23) hx hb dX8_goes_259 cb_23 ?_
              refine lv_dup2_11 hx hb dX8_goes_261 rfl rfl ?_
              refine xa_iald hx hb hg hP 7 rfl xl_23 (by first | omega | exact Nat.lt_of_lt_of_le (Nat.mod_lt _ (by omega)) (by omega)) (by omega) dX8_goes_262 ?_
              refine lv_aload_n hx hb dX8_goes_263 rfl (lv_at hl 2 rfl) ?_
              refine va_get (D := D) (ci := 10) (v := .ref ma) (C := RX8) (T := TX8) (N := 37) hx hb hts in_X8 hown hg.1 hP 0 rfl rfl 3 (Nat.le_of_ble_eq_true rfl) (hts _ q1144) (fun _ h9 => h9) rfl dX8_goes_264 ?_
              refine va_getN (D := D) (ci := 11) (v := .int (MI 6)) (C := RX13) (T := TX13) (N := 18) hx hb hts in_X13 hown hg.1 hP 1 rfl rfl 6 (Nat.le_of_ble_eq_true rfl) (nwF_252 hg) (fun _ h9 => h9) rfl dX8_goes_267 ?_
              refine lv_iload_n hx hb dX8_goes_270 rfl (lv_at hl 0 rfl) ?_
              refine lv_isub hx hb dX8_goes_271 ?_
              refine lv_iadd hx hb dX8_goes_272 ?_
              refine lv_topi (fun x64 ex64 => ?_)
              refine xa_iast hx hb hg hP hD hS 7 rfl xl_23 (by omega) (by omega) dX8_goes_273 (fun f65 H locs ef65 hP hD hS => ?_)
              replace hP : va_P D vwCl [(o, eMM r (.ref ma) fr I L), (ma, eMI mr MI), ((mr 11), aI k 6 mpr), ((mr 12), aI k 5 mbr), ((mr 13), aI k 5 mnx), ((mr 14), aI k 4 mhd), ((mr 15), aI k 20 mtn), (sa, aI k 37 f65)] H := hP
              replace hD : va_D A [(o, eMM r (.ref ma) fr I L), (ma, eMI mr MI), ((mr 11), aI k 6 mpr), ((mr 12), aI k 5 mbr), ((mr 13), aI k 5 mnx), ((mr 14), aI k 4 mhd), ((mr 15), aI k 20 mtn), (sa, aI k 37 f65)] := hD
              refine lv_aload_n hx hb dX8_goes_274 rfl (lv_at hl 2 rfl) ?_
              refine va_get (D := D) (ci := 10) (v := .ref ma) (C := RX8) (T := TX8) (N := 37) hx hb hts in_X8 hown hg.1 hP 0 rfl rfl 3 (Nat.le_of_ble_eq_true rfl) (hts _ q1144) (fun _ h9 => h9) rfl dX8_goes_275 ?_
              refine va_getN (D := D) (ci := 11) (v := .int (MI 1)) (C := RX13) (T := TX13) (N := 18) hx hb hts in_X13 hown hg.1 hP 1 rfl rfl 1 (Nat.le_of_ble_eq_true rfl) (nwF_233 hg) (fun _ h9 => h9) rfl dX8_goes_278 ?_
              refine lv_aload_n hx hb dX8_goes_281 rfl (lv_at hl 2 rfl) ?_
              refine va_get (D := D) (ci := 10) (v := .ref ma) (C := RX8) (T := TX8) (N := 37) hx hb hts in_X8 hown hg.1 hP 0 rfl rfl 3 (Nat.le_of_ble_eq_true rfl) (hts _ q1144) (fun _ h9 => h9) rfl dX8_goes_282 ?_
              refine va_getN (D := D) (ci := 11) (v := .int (MI 1)) (C := RX13) (T := TX13) (N := 18) hx hb hts in_X13 hown hg.1 hP 1 rfl rfl 1 (Nat.le_of_ble_eq_true rfl) (nwF_233 hg) (fun _ h9 => h9) rfl dX8_goes_285 ?_
              refine lv_aload_n hx hb dX8_goes_288 rfl (lv_at hl 3 rfl) ?_
              refine lv_bipush (v := 28) hx hb dX8_goes_289 cb_28 ?_
              refine xa_iald hx hb hg hP 7 rfl xl_28 (by first | omega | exact Nat.lt_of_lt_of_le (Nat.mod_lt _ (by omega)) (by omega)) (by omega) dX8_goes_291 ?_
              refine lv_imul hx hb dX8_goes_292 ?_
              refine lv_aload_n hx hb dX8_goes_293 rfl (lv_at hl 2 rfl) ?_
              refine va_get (D := D) (ci := 10) (v := .ref ma) (C := RX8) (T := TX8) (N := 37) hx hb hts in_X8 hown hg.1 hP 0 rfl rfl 3 (Nat.le_of_ble_eq_true rfl) (hts _ q1144) (fun _ h9 => h9) rfl dX8_goes_294 ?_
              refine va_getN (D := D) (ci := 11) (v := .int (MI 0)) (C := RX13) (T := TX13) (N := 18) hx hb hts in_X13 hown hg.1 hP 1 rfl rfl 0 (Nat.le_of_ble_eq_true rfl) (nwF_176 hg) (fun _ h9 => h9) rfl dX8_goes_297 ?_
              refine lv_idiv hx hb dX8_goes_300 (by first | assumption | omega) ?_
              refine lv_isub hx hb dX8_goes_301 ?_
              refine lv_topi (fun x66 ex66 => ?_)
              refine lv_istore (lv' := [(4, .int x66), (3, .int v59), (2, .int v52), (0, .ref o), (1, .ref sa)]) hx hb dX8_goes_302 hl (Nat.le_of_ble_eq_true rfl) rfl (fun ls hl => ?_)
              refine lv_aload_n hx hb dX8_goes_304 rfl (lv_at hl 4 rfl) ?_
              refine lv_bipush (v := 31) hx hb dX8_goes_305 cb_31 ?_
              refine lv_iload hx hb dX8_goes_307 (lv_at hl 0 rfl) ?_
              have Jn8 : ∀ (v69 : (Int32)) (H : Heap) (locs : List Loc) (ls : Array Slot), v69 = f_X8_goes_j8 x66 → va_P D vwCl [(o, eMM r (.ref ma) fr I L), (ma, eMI mr MI), ((mr 11), aI k 6 mpr), ((mr 12), aI k 5 mbr), ((mr 13), aI k 5 mnx), ((mr 14), aI k 4 mhd), ((mr 15), aI k 20 mtn), (sa, aI k 37 f65)] H → va_D A [(o, eMM r (.ref ma) fr I L), (ma, eMI mr MI), ((mr 11), aI k 6 mpr), ((mr 12), aI k 5 mbr), ((mr 13), aI k 5 mnx), ((mr 14), aI k 4 mhd), ((mr 15), aI k 20 mtn), (sa, aI k 37 f65)] → va_S A s.heap H locs → lv_has ls 5 [(4, .int x66), (3, .int v59), (2, .int v52), (0, .ref o), (1, .ref sa)] → W p l e rm_X8_goes s m ([.ref o, .ref sa] : List Value).toArray below meth c H locs 0 0 (MQ below (q_X8_goes D k o r fr I L ma mr MI mpr mbr mnx mhd mtn sa sv ore nP now nS A) ([.ref o, .ref sa] : List Value).toArray s 0 0 A) (F0 m 318 ls [.int v69, .int 31, .ref sa]) := by
                intro v69 H locs ls ev69 hP hD hS hl
                refine xa_iast hx hb hg hP hD hS 7 rfl xl_31 (by omega) (by omega) dX8_goes_318 (fun f70 H locs ef70 hP hD hS => ?_)
                replace hP : va_P D vwCl [(o, eMM r (.ref ma) fr I L), (ma, eMI mr MI), ((mr 11), aI k 6 mpr), ((mr 12), aI k 5 mbr), ((mr 13), aI k 5 mnx), ((mr 14), aI k 4 mhd), ((mr 15), aI k 20 mtn), (sa, aI k 37 f70)] H := hP
                replace hD : va_D A [(o, eMM r (.ref ma) fr I L), (ma, eMI mr MI), ((mr 11), aI k 6 mpr), ((mr 12), aI k 5 mbr), ((mr 13), aI k 5 mnx), ((mr 14), aI k 4 mhd), ((mr 15), aI k 20 mtn), (sa, aI k 37 f70)] := hD
                refine lv_aload_n hx hb dX8_goes_319 rfl (lv_at hl 4 rfl) ?_
                refine lv_bipush (v := 32) hx hb dX8_goes_320 cb_32 ?_
                refine lv_dup2_11 hx hb dX8_goes_322 rfl rfl ?_
                refine xa_iald hx hb hg hP 7 rfl xl_32 (by first | omega | exact Nat.lt_of_lt_of_le (Nat.mod_lt _ (by omega)) (by omega)) (by omega) dX8_goes_323 ?_
                refine lv_aload_n hx hb dX8_goes_324 rfl (lv_at hl 4 rfl) ?_
                refine lv_bipush (v := 30) hx hb dX8_goes_325 cb_30 ?_
                refine xa_iald hx hb hg hP 7 rfl xl_30 (by first | omega | exact Nat.lt_of_lt_of_le (Nat.mod_lt _ (by omega)) (by omega)) (by omega) dX8_goes_327 ?_
                refine lv_aload_n hx hb dX8_goes_328 rfl (lv_at hl 3 rfl) ?_
                refine va_get (D := D) (ci := 10) (v := .ref ma) (C := RX8) (T := TX8) (N := 37) hx hb hts in_X8 hown hg.1 hP 0 rfl rfl 3 (Nat.le_of_ble_eq_true rfl) (hts _ q1144) (fun _ h9 => h9) rfl dX8_goes_329 ?_
                refine va_getN (D := D) (ci := 11) (v := .ref (mr 11)) (C := RX13) (T := TX13) (N := 18) hx hb hts in_X13 hown hg.1 hP 1 rfl rfl 11 (Nat.le_of_ble_eq_true rfl) (nwF_254 hg) (fun _ h9 => h9) rfl dX8_goes_332 ?_
                refine lv_aload_n hx hb dX8_goes_335 rfl (lv_at hl 4 rfl) ?_
                refine lv_bipush (v := 27) hx hb dX8_goes_336 cb_27 ?_
                refine xa_iald hx hb hg hP 7 rfl xl_27 (by first | omega | exact Nat.lt_of_lt_of_le (Nat.mod_lt _ (by omega)) (by omega)) (by omega) dX8_goes_338 ?_
                refine lv_aload_n hx hb dX8_goes_339 rfl (lv_at hl 3 rfl) ?_
                refine va_get (D := D) (ci := 10) (v := .ref ma) (C := RX8) (T := TX8) (N := 37) hx hb hts in_X8 hown hg.1 hP 0 rfl rfl 3 (Nat.le_of_ble_eq_true rfl) (hts _ q1144) (fun _ h9 => h9) rfl dX8_goes_340 ?_
                refine va_getN (D := D) (ci := 11) (v := .int (MI 7)) (C := RX13) (T := TX13) (N := 18) hx hb hts in_X13 hown hg.1 hP 1 rfl rfl 7 (Nat.le_of_ble_eq_true rfl) (nwF_188 hg) (fun _ h9 => h9) rfl dX8_goes_343 ?_
                refine lv_irem hx hb dX8_goes_346 (by rw [hpr]; exact nI_ne0 (by omega) (by omega)) ?_
                refine xa_iald hx hb hg hP 2 rfl (xnrem ((show f70 27 = f65 27 by rw [ef70]; exact pk_un (by decide)).trans ((show f65 27 = f63 27 by rw [ef65]; exact pk_un (by decide)).trans ((show f63 27 = f61 27 by rw [ef63]; exact pk_un (by decide)).trans ((show f61 27 = f56 27 by rw [ef61]; exact pk_un (by decide)).trans ((show f56 27 = f54 27 by rw [ef56]; exact pk_un (by decide)).trans ((show f54 27 = f49 27 by rw [ef54]; exact pk_un (by decide)).trans ((show f49 27 = v46 27 by rw [ef49]; exact pk_un (by decide)).trans h27v46))))))) hpr (by omega) (by omega) (by omega)) (by first | omega | exact Nat.lt_of_lt_of_le (Nat.mod_lt _ (by omega)) (by omega)) (by omega) dX8_goes_347 ?_
                refine lv_imul hx hb dX8_goes_348 ?_
                refine lv_iadd hx hb dX8_goes_349 ?_
                refine lv_topi (fun x71 ex71 => ?_)
                refine xa_iast hx hb hg hP hD hS 7 rfl xl_32 (by omega) (by omega) dX8_goes_350 (fun f72 H locs ef72 hP hD hS => ?_)
                replace hP : va_P D vwCl [(o, eMM r (.ref ma) fr I L), (ma, eMI mr MI), ((mr 11), aI k 6 mpr), ((mr 12), aI k 5 mbr), ((mr 13), aI k 5 mnx), ((mr 14), aI k 4 mhd), ((mr 15), aI k 20 mtn), (sa, aI k 37 f72)] H := hP
                replace hD : va_D A [(o, eMM r (.ref ma) fr I L), (ma, eMI mr MI), ((mr 11), aI k 6 mpr), ((mr 12), aI k 5 mbr), ((mr 13), aI k 5 mnx), ((mr 14), aI k 4 mhd), ((mr 15), aI k 20 mtn), (sa, aI k 37 f72)] := hD
                refine lv_aload_n hx hb dX8_goes_351 rfl (lv_at hl 4 rfl) ?_
                refine lv_bipush (v := 24) hx hb dX8_goes_352 cb_24 ?_
                refine lv_dup2_11 hx hb dX8_goes_354 rfl rfl ?_
                refine xa_iald hx hb hg hP 7 rfl xl_24 (by first | omega | exact Nat.lt_of_lt_of_le (Nat.mod_lt _ (by omega)) (by omega)) (by omega) dX8_goes_355 ?_
                refine lv_iconst (v := 1) hx hb dX8_goes_356 ci_1 ?_
                refine lv_iadd hx hb dX8_goes_357 ?_
                refine lv_topi (fun x73 ex73 => ?_)
                refine xa_iast hx hb hg hP hD hS 7 rfl xl_24 (by omega) (by omega) dX8_goes_358 (fun f74 H locs ef74 hP hD hS => ?_)
                replace hP : va_P D vwCl [(o, eMM r (.ref ma) fr I L), (ma, eMI mr MI), ((mr 11), aI k 6 mpr), ((mr 12), aI k 5 mbr), ((mr 13), aI k 5 mnx), ((mr 14), aI k 4 mhd), ((mr 15), aI k 20 mtn), (sa, aI k 37 f74)] H := hP
                replace hD : va_D A [(o, eMM r (.ref ma) fr I L), (ma, eMI mr MI), ((mr 11), aI k 6 mpr), ((mr 12), aI k 5 mbr), ((mr 13), aI k 5 mnx), ((mr 14), aI k 4 mhd), ((mr 15), aI k 20 mtn), (sa, aI k 37 f74)] := hD
                refine lv_aload_n hx hb dX8_goes_359 rfl (lv_at hl 4 rfl) ?_
                refine lv_bipush (v := 27) hx hb dX8_goes_360 cb_27 ?_
                refine lv_dup2_11 hx hb dX8_goes_362 rfl rfl ?_
                refine xa_iald hx hb hg hP 7 rfl xl_27 (by first | omega | exact Nat.lt_of_lt_of_le (Nat.mod_lt _ (by omega)) (by omega)) (by omega) dX8_goes_363 ?_
                refine lv_iconst (v := 1) hx hb dX8_goes_364 ci_1 ?_
                refine lv_iadd hx hb dX8_goes_365 ?_
                refine lv_topi (fun x75 ex75 => ?_)
                refine xa_iast hx hb hg hP hD hS 7 rfl xl_27 (by omega) (by omega) dX8_goes_366 (fun f76 H locs ef76 hP hD hS => ?_)
                replace hP : va_P D vwCl [(o, eMM r (.ref ma) fr I L), (ma, eMI mr MI), ((mr 11), aI k 6 mpr), ((mr 12), aI k 5 mbr), ((mr 13), aI k 5 mnx), ((mr 14), aI k 4 mhd), ((mr 15), aI k 20 mtn), (sa, aI k 37 f76)] H := hP
                replace hD : va_D A [(o, eMM r (.ref ma) fr I L), (ma, eMI mr MI), ((mr 11), aI k 6 mpr), ((mr 12), aI k 5 mbr), ((mr 13), aI k 5 mnx), ((mr 14), aI k 4 mhd), ((mr 15), aI k 20 mtn), (sa, aI k 37 f76)] := hD
                exact xret_v hx hb hr hlocks (Nat.le_of_ble_eq_true rfl) (Nat.le_of_ble_eq_true rfl) hS.2.2 dX8_goes_367 (fun t ht => ⟨⟨f76, rfl, (by subst ef76; subst ex75; subst ef74; subst ex73; subst ef72; subst ex71; subst ef70; subst ev69; subst ex66; subst ef65; subst ex64; subst ef63; subst ex62; subst ef61; subst ex60; subst ev59; subst ef56; subst ex55; subst ef54; subst ex53; subst ev52; subst ef49; subst ex48; subst eu47; subst ev46; subst ef39; subst ef38; subst ef37; subst ev36; subst ef33; subst eu32; subst eX1; exact rfl), by rw [ht]; exact hP, hD⟩, hS.F ht⟩)
              refine lv_if_ge (tgt := 316) hx hb dX8_goes_309 (by decide) (fun c77 => ?_) (fun c77 => ?_)
              · refine lv_iload hx hb dX8_goes_316 (lv_at hl 0 rfl) ?_
                exact Jn8 x66 _ _ _ (by exact Eq.symm (Eq.trans (if_pos c77) (rfl))) hP hD hS (lv_sub hl [0, 1, 2, 3, 4] rfl)
              · refine lv_iconst (v := 0) hx hb dX8_goes_312 ci_0 ?_
                refine lv_goto (tgt := 318) hx hb dX8_goes_313 (by decide) ?_
                exact Jn8 0 _ _ _ (by exact Eq.symm (Eq.trans (if_neg c77) (rfl))) hP hD hS (lv_sub hl [0, 1, 2, 3, 4] rfl)
            refine lv_icmp_ge (tgt := 234) hx hb dX8_goes_224 (by decide) (fun c78 => ?_) (fun c78 => ?_)
            · refine lv_aload_n hx hb dX8_goes_234 rfl (lv_at hl 1 rfl) ?_
              refine va_get (D := D) (ci := 10) (v := .ref ma) (C := RX8) (T := TX8) (N := 37) hx hb hts in_X8 hown hg.1 hP 0 rfl rfl 3 (Nat.le_of_ble_eq_true rfl) (hts _ q1144) (fun _ h9 => h9) rfl dX8_goes_235 ?_
              refine va_getN (D := D) (ci := 11) (v := .int (MI 6)) (C := RX13) (T := TX13) (N := 18) hx hb hts in_X13 hown hg.1 hP 1 rfl rfl 6 (Nat.le_of_ble_eq_true rfl) (nwF_252 hg) (fun _ h9 => h9) rfl dX8_goes_238 ?_
              exact Jn7 (MI 6) _ _ _ (by exact Eq.symm (Eq.trans (if_pos c78) (rfl))) hP hD hS (lv_sub hl [0, 1, 2] rfl)
            · refine lv_aload_n hx hb dX8_goes_227 rfl (lv_at hl 2 rfl) ?_
              refine lv_bipush (v := 20) hx hb dX8_goes_228 cb_20 ?_
              refine xa_iald hx hb hg hP 7 rfl xl_20 (by first | omega | exact Nat.lt_of_lt_of_le (Nat.mod_lt _ (by omega)) (by omega)) (by omega) dX8_goes_230 ?_
              refine lv_goto (tgt := 241) hx hb dX8_goes_231 (by decide) ?_
              exact Jn7 (f56 20) _ _ _ (by exact Eq.symm (Eq.trans (if_neg c78) (rfl))) hP hD hS (lv_sub hl [0, 1, 2] rfl)
          refine lv_icmp_le (tgt := 195) hx hb dX8_goes_177 (by decide) (fun c79 => ?_) (fun c79 => ?_)
          · refine lv_iconst (v := 0) hx hb dX8_goes_195 ci_0 ?_
            exact Jn6 0 _ _ _ (by exact Eq.symm (Eq.trans (if_pos c79) (rfl))) hP hD hS (lv_sub hl [0, 1, 2] rfl)
          · refine lv_aload_n hx hb dX8_goes_180 rfl (lv_at hl 2 rfl) ?_
            refine lv_bipush (v := 20) hx hb dX8_goes_181 cb_20 ?_
            refine xa_iald hx hb hg hP 7 rfl xl_20 (by first | omega | exact Nat.lt_of_lt_of_le (Nat.mod_lt _ (by omega)) (by omega)) (by omega) dX8_goes_183 ?_
            refine lv_aload_n hx hb dX8_goes_184 rfl (lv_at hl 1 rfl) ?_
            refine va_get (D := D) (ci := 10) (v := .ref ma) (C := RX8) (T := TX8) (N := 37) hx hb hts in_X8 hown hg.1 hP 0 rfl rfl 3 (Nat.le_of_ble_eq_true rfl) (hts _ q1144) (fun _ h9 => h9) rfl dX8_goes_185 ?_
            refine va_getN (D := D) (ci := 11) (v := .int (MI 5)) (C := RX13) (T := TX13) (N := 18) hx hb hts in_X13 hown hg.1 hP 1 rfl rfl 5 (Nat.le_of_ble_eq_true rfl) (nwF_186 hg) (fun _ h9 => h9) rfl dX8_goes_188 ?_
            refine lv_isub hx hb dX8_goes_191 ?_
            refine lv_goto (tgt := 196) hx hb dX8_goes_192 (by decide) ?_
            exact Jn6 ((f49 20) - (MI 5)) _ _ _ (by exact Eq.symm (Eq.trans (if_neg c79) (rfl))) hP hD hS (lv_sub hl [0, 1, 2] rfl)
        refine lv_if_ne (tgt := 147) hx hb dX8_goes_136 (by decide) (fun c80 => ?_) (fun c80 => ?_)
        · refine lv_aload_n hx hb dX8_goes_147 rfl (lv_at hl 1 rfl) ?_
          refine lv_aload_n hx hb dX8_goes_148 rfl (lv_at hl 2 rfl) ?_
          refine xc_v (wc := [(o, eMM r (.ref ma) fr I L), (ma, eMI mr MI), (sa, aI k 37 f39)]) (wr := [((mr 11), aI k 6 mpr), ((mr 12), aI k 5 mbr), ((mr 13), aI k 5 mnx), ((mr 14), aI k 4 mhd), ((mr 15), aI k 20 mtn)]) hP hD hS hA [0, 1, 7] [2, 3, 4, 5, 6] rfl rfl rfl (by decide) (xrV ⟨hx, hb, hml, hown, hts⟩ hg (m_X8_digs l D k _ o r fr I L ma mr MI sa f39 nS hmS hS2 hS5) hP hD [0, 1, 7] rfl rfl trivial (ci := 10) (q0 := 0) rfl rfl rfl q1538 q1540 qs69 q93 q1541 xo_X8_digs ⟨rfl, rfl⟩ ⟨Nat.le_of_ble_eq_true rfl, Nat.le_of_ble_eq_true rfl⟩ hl.1 (Nat.le_of_ble_eq_true rfl) dX8_goes_149 ⟨Nat.le_of_ble_eq_true rfl, Nat.le_of_ble_eq_true rfl⟩ rfl) (fun u81 H locs hw hP hD hS hk => ?_)
          have eu81 := hw
          replace hP : va_P D vwCl [(o, eMM r (.ref ma) fr I L), (ma, eMI mr MI), ((mr 11), aI k 6 mpr), ((mr 12), aI k 5 mbr), ((mr 13), aI k 5 mnx), ((mr 14), aI k 4 mhd), ((mr 15), aI k 20 mtn), (sa, aI k 37 u81)] H := hP.sub [5, 6, 0, 1, 2, 3, 4, 7] rfl
          replace hD : va_D A [(o, eMM r (.ref ma) fr I L), (ma, eMI mr MI), ((mr 11), aI k 6 mpr), ((mr 12), aI k 5 mbr), ((mr 13), aI k 5 mnx), ((mr 14), aI k 4 mhd), ((mr 15), aI k 20 mtn), (sa, aI k 37 u81)] := hD.sub [5, 6, 0, 1, 2, 3, 4, 7] (by decide) rfl
          exact Jn5 u81 _ _ _ (by subst eu81; exact Eq.symm (Eq.trans (if_neg c80) (rfl))) hP hD hS (lv_sub hl [0, 1, 2] rfl)
        · refine lv_aload_n hx hb dX8_goes_139 rfl (lv_at hl 1 rfl) ?_
          refine lv_aload_n hx hb dX8_goes_140 rfl (lv_at hl 2 rfl) ?_
          refine xc_v (wc := [(o, eMM r (.ref ma) fr I L), (ma, eMI mr MI), ((mr 12), aI k 5 mbr), ((mr 13), aI k 5 mnx), ((mr 14), aI k 4 mhd), (sa, aI k 37 f39)]) (wr := [((mr 11), aI k 6 mpr), ((mr 15), aI k 20 mtn)]) hP hD hS hA [0, 1, 3, 4, 5, 7] [2, 6] rfl rfl rfl (by decide) (xrV ⟨hx, hb, hml, hown, hts⟩ hg (m_X8_grinds l D k _ o r fr I L ma mr MI mbr mnx mhd sa f39 ore nS hmS hS2 hS5 hore ((show f39 36 = f38 36 by rw [ef39]; exact pk_un (by decide)).trans ((show f38 36 = f37 36 by rw [ef38]; exact pk_un (by decide)).trans ((show f37 36 = f33 36 by rw [ef37]; exact pk_un (by decide)).trans ((show f33 36 = X1 36 by rw [ef33]; exact pk_un (by decide)).trans h36X1)))) hroom hlife hhard) hP hD [0, 1, 3, 4, 5, 7] rfl rfl trivial (ci := 10) (q0 := 0) rfl rfl rfl q1526 q1528 qs66 q93 q1529 xo_X8_grinds ⟨rfl, rfl⟩ ⟨Nat.le_of_ble_eq_true rfl, Nat.le_of_ble_eq_true rfl⟩ hl.1 (Nat.le_of_ble_eq_true rfl) dX8_goes_141 ⟨Nat.le_of_ble_eq_true rfl, Nat.le_of_ble_eq_true rfl⟩ rfl) (fun u82 H locs hw hP hD hS hk => ?_)
          have eu82 := hw
          replace hP : va_P D vwCl [(o, eMM r (.ref ma) fr I L), (ma, eMI mr MI), ((mr 11), aI k 6 mpr), ((mr 12), aI k 5 mbr), ((mr 13), aI k 5 mnx), ((mr 14), aI k 4 mhd), ((mr 15), aI k 20 mtn), (sa, aI k 37 u82)] H := hP.sub [2, 3, 0, 4, 5, 6, 1, 7] rfl
          replace hD : va_D A [(o, eMM r (.ref ma) fr I L), (ma, eMI mr MI), ((mr 11), aI k 6 mpr), ((mr 12), aI k 5 mbr), ((mr 13), aI k 5 mnx), ((mr 14), aI k 4 mhd), ((mr 15), aI k 20 mtn), (sa, aI k 37 u82)] := hD.sub [2, 3, 0, 4, 5, 6, 1, 7] (by decide) rfl
          refine lv_goto (tgt := 152) hx hb dX8_goes_144 (by decide) ?_
          exact Jn5 u82 _ _ _ (by subst eu82; exact Eq.symm (Eq.trans (if_pos c80) (rfl))) hP hD hS (lv_sub hl [0, 1, 2] rfl)
      refine lv_icmp_le (tgt := 120) hx hb dX8_goes_113 (by decide) (fun c83 => ?_) (fun c83 => ?_)
      · refine lv_iconst (v := 0) hx hb dX8_goes_120 ci_0 ?_
        exact Jn4 0 _ _ _ (by exact Eq.symm (Eq.trans (if_pos c83) (rfl))) (Or.inl rfl) hP hD hS (lv_sub hl [0, 1, 2] rfl)
      · refine lv_iconst (v := 1) hx hb dX8_goes_116 ci_1 ?_
        refine lv_goto (tgt := 121) hx hb dX8_goes_117 (by decide) ?_
        exact Jn4 1 _ _ _ (by exact Eq.symm (Eq.trans (if_neg c83) (rfl))) (Or.inr rfl) hP hD hS (lv_sub hl [0, 1, 2] rfl)
    | succ n1 ih1 =>
      intro i1 X1 H locs ls hn1 eX1 hP hD hS hl
      have hi1 : i1 < nS := by omega
      refine lv_iload_n hx hb dX8_goes_2 rfl (lv_at hl 0 rfl) ?_
      refine lv_aload_n hx hb dX8_goes_3 rfl (lv_at hl 1 rfl) ?_
      refine va_get (D := D) (ci := 10) (v := .ref ma) (C := RX8) (T := TX8) (N := 37) hx hb hts in_X8 hown hg.1 hP 0 rfl rfl 3 (Nat.le_of_ble_eq_true rfl) (hts _ q1144) (fun _ h9 => h9) rfl dX8_goes_4 ?_
      refine va_getN (D := D) (ci := 11) (v := .int (MI 8)) (C := RX13) (T := TX13) (N := 18) hx hb hts in_X13 hown hg.1 hP 1 rfl rfl 8 (Nat.le_of_ble_eq_true rfl) (nwF_191 hg) (fun _ h9 => h9) rfl dX8_goes_7 ?_
      refine lv_icmp_ge (tgt := 89) hx hb dX8_goes_10 (by decide) (fun c => absurd c (xle_f hmS rfl (by omega) (by omega))) (fun _ => ?_)
      refine lv_aload_n hx hb dX8_goes_13 rfl (lv_at hl 2 rfl) ?_
      refine lv_bipush (v := 26) hx hb dX8_goes_14 cb_26 ?_
      refine xa_iald hx hb hg hP 7 rfl xl_26 (by first | omega | exact Nat.lt_of_lt_of_le (Nat.mod_lt _ (by omega)) (by omega)) (by omega) dX8_goes_16 ?_
      refine lv_iconst (v := 1) hx hb dX8_goes_17 ci_1 ?_
      have Jn9 : ∀ (v86 : (Int32)) (H : Heap) (locs : List Loc) (ls : Array Slot), v86 = f_X8_goes_j9 mtn ore X1 i1 → va_P D vwCl [(o, eMM r (.ref ma) fr I L), (ma, eMI mr MI), ((mr 11), aI k 6 mpr), ((mr 12), aI k 5 mbr), ((mr 13), aI k 5 mnx), ((mr 14), aI k 4 mhd), ((mr 15), aI k 20 mtn), (sa, aI k 37 X1)] H → va_D A [(o, eMM r (.ref ma) fr I L), (ma, eMI mr MI), ((mr 11), aI k 6 mpr), ((mr 12), aI k 5 mbr), ((mr 13), aI k 5 mnx), ((mr 14), aI k 4 mhd), ((mr 15), aI k 20 mtn), (sa, aI k 37 X1)] → va_S A s.heap H locs → lv_has ls 5 [(2, .int (nI i1)), (0, .ref o), (1, .ref sa)] → W p l e rm_X8_goes s m ([.ref o, .ref sa] : List Value).toArray below meth c H locs 0 0 (MQ below (q_X8_goes D k o r fr I L ma mr MI mpr mbr mnx mhd mtn sa sv ore nP now nS A) ([.ref o, .ref sa] : List Value).toArray s 0 0 A) (F0 m 46 ls [.int v86]) := by
        intro v86 H locs ls ev86 hP hD hS hl
        refine lv_istore_n (lv' := [(3, .int v86), (2, .int (nI i1)), (0, .ref o), (1, .ref sa)]) hx hb dX8_goes_46 rfl hl (Nat.le_of_ble_eq_true rfl) rfl (fun ls hl => ?_)
        refine lv_aload_n hx hb dX8_goes_47 rfl (lv_at hl 3 rfl) ?_
        refine lv_bipush (v := 33) hx hb dX8_goes_48 cb_33 ?_
        refine lv_dup2_11 hx hb dX8_goes_50 rfl rfl ?_
        refine xa_iald hx hb hg hP 7 rfl xl_33 (by first | omega | exact Nat.lt_of_lt_of_le (Nat.mod_lt _ (by omega)) (by omega)) (by omega) dX8_goes_51 ?_
        refine lv_iload_n hx hb dX8_goes_52 rfl (lv_at hl 0 rfl) ?_
        refine lv_iadd hx hb dX8_goes_53 ?_
        refine lv_topi (fun x87 ex87 => ?_)
        refine xa_iast hx hb hg hP hD hS 7 rfl xl_33 (by omega) (by omega) dX8_goes_54 (fun f88 H locs ef88 hP hD hS => ?_)
        replace hP : va_P D vwCl [(o, eMM r (.ref ma) fr I L), (ma, eMI mr MI), ((mr 11), aI k 6 mpr), ((mr 12), aI k 5 mbr), ((mr 13), aI k 5 mnx), ((mr 14), aI k 4 mhd), ((mr 15), aI k 20 mtn), (sa, aI k 37 f88)] H := hP
        replace hD : va_D A [(o, eMM r (.ref ma) fr I L), (ma, eMI mr MI), ((mr 11), aI k 6 mpr), ((mr 12), aI k 5 mbr), ((mr 13), aI k 5 mnx), ((mr 14), aI k 4 mhd), ((mr 15), aI k 20 mtn), (sa, aI k 37 f88)] := hD
        refine lv_aload_n hx hb dX8_goes_55 rfl (lv_at hl 3 rfl) ?_
        refine lv_iconst (v := 0) hx hb dX8_goes_56 ci_0 ?_
        refine lv_iload_n hx hb dX8_goes_57 rfl (lv_at hl 1 rfl) ?_
        refine lv_iadd hx hb dX8_goes_58 ?_
        refine lv_dup2_11 hx hb dX8_goes_59 rfl rfl ?_
        refine xa_iald hx hb hg hP 7 rfl (xnadd xl_0 rfl) (by first | omega | exact Nat.lt_of_lt_of_le (Nat.mod_lt _ (by omega)) (by omega)) (by omega) dX8_goes_60 ?_
        refine lv_iload_n hx hb dX8_goes_61 rfl (lv_at hl 0 rfl) ?_
        refine lv_aload_n hx hb dX8_goes_62 rfl (lv_at hl 3 rfl) ?_
        refine lv_iconst (v := 5) hx hb dX8_goes_63 ci_5 ?_
        refine lv_iload_n hx hb dX8_goes_64 rfl (lv_at hl 1 rfl) ?_
        refine lv_iadd hx hb dX8_goes_65 ?_
        refine xa_iald hx hb hg hP 7 rfl (xnadd xl_5 rfl) (by first | omega | exact Nat.lt_of_lt_of_le (Nat.mod_lt _ (by omega)) (by omega)) (by omega) dX8_goes_66 ?_
        refine lv_iadd hx hb dX8_goes_67 ?_
        refine lv_iadd hx hb dX8_goes_68 ?_
        refine lv_topi (fun x89 ex89 => ?_)
        refine xa_iast hx hb hg hP hD hS 7 rfl (xnadd xl_0 rfl) (by omega) (by omega) dX8_goes_69 (fun f90 H locs ef90 hP hD hS => ?_)
        replace hP : va_P D vwCl [(o, eMM r (.ref ma) fr I L), (ma, eMI mr MI), ((mr 11), aI k 6 mpr), ((mr 12), aI k 5 mbr), ((mr 13), aI k 5 mnx), ((mr 14), aI k 4 mhd), ((mr 15), aI k 20 mtn), (sa, aI k 37 f90)] H := hP
        replace hD : va_D A [(o, eMM r (.ref ma) fr I L), (ma, eMI mr MI), ((mr 11), aI k 6 mpr), ((mr 12), aI k 5 mbr), ((mr 13), aI k 5 mnx), ((mr 14), aI k 4 mhd), ((mr 15), aI k 20 mtn), (sa, aI k 37 f90)] := hD
        refine lv_aload_n hx hb dX8_goes_70 rfl (lv_at hl 3 rfl) ?_
        refine lv_iconst (v := 5) hx hb dX8_goes_71 ci_5 ?_
        refine lv_iload_n hx hb dX8_goes_72 rfl (lv_at hl 1 rfl) ?_
        refine lv_iadd hx hb dX8_goes_73 ?_
        refine lv_iconst (v := 0) hx hb dX8_goes_74 ci_0 ?_
        refine xa_iast hx hb hg hP hD hS 7 rfl (xnadd xl_5 rfl) (by omega) (by omega) dX8_goes_75 (fun f91 H locs ef91 hP hD hS => ?_)
        replace hP : va_P D vwCl [(o, eMM r (.ref ma) fr I L), (ma, eMI mr MI), ((mr 11), aI k 6 mpr), ((mr 12), aI k 5 mbr), ((mr 13), aI k 5 mnx), ((mr 14), aI k 4 mhd), ((mr 15), aI k 20 mtn), (sa, aI k 37 f91)] H := hP
        replace hD : va_D A [(o, eMM r (.ref ma) fr I L), (ma, eMI mr MI), ((mr 11), aI k 6 mpr), ((mr 12), aI k 5 mbr), ((mr 13), aI k 5 mnx), ((mr 14), aI k 4 mhd), ((mr 15), aI k 20 mtn), (sa, aI k 37 f91)] := hD
        refine lv_aload_n hx hb dX8_goes_76 rfl (lv_at hl 3 rfl) ?_
        refine lv_bipush (v := 10) hx hb dX8_goes_77 cb_10 ?_
        refine lv_iload_n hx hb dX8_goes_79 rfl (lv_at hl 1 rfl) ?_
        refine lv_iadd hx hb dX8_goes_80 ?_
        refine lv_iconst (v := 0) hx hb dX8_goes_81 ci_0 ?_
        refine xa_iast hx hb hg hP hD hS 7 rfl (xnadd xl_10 rfl) (by omega) (by omega) dX8_goes_82 (fun f92 H locs ef92 hP hD hS => ?_)
        replace hP : va_P D vwCl [(o, eMM r (.ref ma) fr I L), (ma, eMI mr MI), ((mr 11), aI k 6 mpr), ((mr 12), aI k 5 mbr), ((mr 13), aI k 5 mnx), ((mr 14), aI k 4 mhd), ((mr 15), aI k 20 mtn), (sa, aI k 37 f92)] H := hP
        replace hD : va_D A [(o, eMM r (.ref ma) fr I L), (ma, eMI mr MI), ((mr 11), aI k 6 mpr), ((mr 12), aI k 5 mbr), ((mr 13), aI k 5 mnx), ((mr 14), aI k 4 mhd), ((mr 15), aI k 20 mtn), (sa, aI k 37 f92)] := hD
        refine lv_iinc (v := (nI (i1 + 1))) (lv' := [(2, .int (nI (i1 + 1))), (3, .int v86), (0, .ref o), (1, .ref sa)]) hx hb dX8_goes_83 hl (k := 1) rfl (xinc1 _) (Nat.le_of_ble_eq_true rfl) rfl (fun ls hl => ?_)
        refine lv_goto (tgt := 2) hx hb dX8_goes_86 (by decide) ?_
        exact ih1 (i1 + 1) f92 _ _ _ (by omega) (Eq.trans (by subst ef92; subst ef91; subst ef90; subst ex89; subst ef88; subst ex87; subst ev86; exact rfl) (congrArg (f_X8_goes_l2 mtn ore i1) eX1)) hP hD hS (lv_sub hl [0, 2, 3] rfl)
      refine lv_icmp_ne (tgt := 25) hx hb dX8_goes_18 (by decide) (fun c93 => ?_) (fun c93 => ?_)
      · refine lv_aload_n hx hb dX8_goes_25 rfl (lv_at hl 2 rfl) ?_
        refine lv_bipush (v := 34) hx hb dX8_goes_26 cb_34 ?_
        refine xa_iald hx hb hg hP 7 rfl xl_34 (by first | omega | exact Nat.lt_of_lt_of_le (Nat.mod_lt _ (by omega)) (by omega)) (by omega) dX8_goes_28 ?_
        refine lv_aload_n hx hb dX8_goes_29 rfl (lv_at hl 1 rfl) ?_
        refine va_get (D := D) (ci := 10) (v := .ref ma) (C := RX8) (T := TX8) (N := 37) hx hb hts in_X8 hown hg.1 hP 0 rfl rfl 3 (Nat.le_of_ble_eq_true rfl) (hts _ q1144) (fun _ h9 => h9) rfl dX8_goes_30 ?_
        refine va_getN (D := D) (ci := 11) (v := .ref (mr 15)) (C := RX13) (T := TX13) (N := 18) hx hb hts in_X13 hown hg.1 hP 1 rfl rfl 15 (Nat.le_of_ble_eq_true rfl) (nwF_278 hg) (fun _ h9 => h9) rfl dX8_goes_33 ?_
        refine lv_iconst (v := 5) hx hb dX8_goes_36 ci_5 ?_
        refine lv_aload_n hx hb dX8_goes_37 rfl (lv_at hl 2 rfl) ?_
        refine lv_bipush (v := 36) hx hb dX8_goes_38 cb_36 ?_
        refine xa_iald hx hb hg hP 7 rfl xl_36 (by first | omega | exact Nat.lt_of_lt_of_le (Nat.mod_lt _ (by omega)) (by omega)) (by omega) dX8_goes_40 ?_
        have h36X1 : X1 36 = nI ore := by
          rw [eX1]
          refine itN_pres (P := fun Y : Nat → Int32 => Y 36 = nI ore) (N := nS) hs36 (fun i Y hi hY => ?_) _ (by omega)
          simp only [f_X8_goes_l2, upd]
          rw [if_neg (by omega), if_neg (by omega), if_neg (by omega), if_neg (by omega)]
          exact hY
        refine lv_imul hx hb dX8_goes_41 ?_
        refine lv_iload_n hx hb dX8_goes_42 rfl (lv_at hl 0 rfl) ?_
        refine lv_iadd hx hb dX8_goes_43 ?_
        refine xa_iald hx hb hg hP 6 rfl (xnadd (xnmul xl_5 h36X1) rfl) (by first | omega | exact Nat.lt_of_lt_of_le (Nat.mod_lt _ (by omega)) (by omega)) (by omega) dX8_goes_44 ?_
        refine lv_imul hx hb dX8_goes_45 ?_
        exact Jn9 ((X1 34) * (mtn ((5 * ore) + i1))) _ _ _ (by exact Eq.symm (Eq.trans (if_neg c93) (rfl))) hP hD hS (lv_sub hl [0, 1, 2] rfl)
      · refine lv_iconst (v := 0) hx hb dX8_goes_21 ci_0 ?_
        refine lv_goto (tgt := 46) hx hb dX8_goes_22 (by decide) ?_
        exact Jn9 0 _ _ _ (by exact Eq.symm (Eq.trans (if_pos c93) (rfl))) hP hD hS (lv_sub hl [0, 1, 2] rfl)
  exact loop1 nS 0 sv _ _ _ (by omega) rfl hP hD hS (by have h := (lv_sub hl [0, 1, 2] rfl); exact h)
