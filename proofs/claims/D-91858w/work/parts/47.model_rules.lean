set_option maxRecDepth 100000
def f_X8_rules_j23 (Y306 : (Int32) × (Nat → Int32)) : (Int32) :=
  if Y306.1 = (-1) then
    0
  else
    Y306.1
def f_X8_rules_j24 (X2 : (Nat → Int32) × (Nat → Int32)) (i306 : Nat) (X306 : (Int32) × (Nat → Int32)) (u397 : (Nat → Int32)) : (Int32) :=
  if (u397 26) = 0 then
    if (u397 23) = (X2.1 23) then
      nI i306
    else
      X306.1
  else
    X306.1
def f_X8_rules_l30 (X2 : (Nat → Int32) × (Nat → Int32)) (i389 : Nat) (X389 : (Nat → Int32)) : (Nat → Int32) :=
  let x405 := (X2.1 i389)
  let f406 := upd X389 i389 x405
  f406
def f_X8_rules_l16 (MI : Nat → Int32) (mpr : Nat → Int32) (mbr : Nat → Int32) (mnx : Nat → Int32) (mhd : Nat → Int32) (mtn : Nat → Int32) (ore : Nat) (now : Nat) (nP : Nat) (nS : Nat) (X2 : (Nat → Int32) × (Nat → Int32)) (i2 : Nat) : Nat → Nat → ((Int32) × (Nat → Int32)) → (Int32) × (Nat → Int32)
  | 0, i306, X306 => (X306.1, X306.2)
  | n306 + 1, i306, X306 => if X306.1 = (-1) then
      let X389 := itN (f_X8_rules_l30 X2) 37 X306.2
      let f396 := upd X389 34 (nI i306)
      let u397 := f_X8_goes MI mpr mbr mnx mhd mtn f396 ore nP (now + i2) nS
      let v402 := f_X8_rules_j24 X2 i306 X306 u397
      f_X8_rules_l16 MI mpr mbr mnx mhd mtn ore now nP nS X2 i2 n306 (i306 + 1) (v402, u397)
    else
      (X306.1, X306.2)
def f_X8_rules_l6 (MI : Nat → Int32) (mpr : Nat → Int32) (mbr : Nat → Int32) (mnx : Nat → Int32) (mhd : Nat → Int32) (mtn : Nat → Int32) (ore : Nat) (now : Nat) (nP : Nat) (nS : Nat) (i2 : Nat) (X2 : (Nat → Int32) × (Nat → Int32)) : (Nat → Int32) × (Nat → Int32) :=
  let Y306 := f_X8_rules_l16 MI mpr mbr mnx mhd mtn ore now nP nS X2 i2 4 0 ((-1), X2.2)
  let v384 := f_X8_rules_j23 Y306
  let f385 := upd X2.1 34 v384
  let u386 := f_X8_goes MI mpr mbr mnx mhd mtn f385 ore nP (now + i2) nS
  (u386, Y306.2)
def f_X8_rules (MI : Nat → Int32) (mpr : Nat → Int32) (mbr : Nat → Int32) (mnx : Nat → Int32) (mhd : Nat → Int32) (mtn : Nat → Int32) (sv : Nat → Int32) (tw : Nat → Int32) (tr : Nat → Int32) (ore : Nat) (now : Nat) (nP : Nat) (nS : Nat) (nj : Nat) : (Nat → Int32) × (Nat → Int32) :=
  let u1 := f_X8_copies sv tw
  let X2 := itN (f_X8_rules_l6 MI mpr mbr mnx mhd mtn ore now nP nS) nj (u1, tr)
  (X2.1, X2.2)
abbrev q_X8_rules (D : va_G) (k : KK) (o : Nat) (r : Nat → Nat) (fr : Value) (I : Nat → Int32) (L : Nat → Int64) (ma : Nat) (mr : Nat → Nat) (MI : Nat → Int32) (mpr : Nat → Int32) (mbr : Nat → Int32) (mnx : Nat → Int32) (mhd : Nat → Int32) (mtn : Nat → Int32) (sv : Nat → Int32) (tw : Nat → Int32) (tr : Nat → Int32) (ore : Nat) (now : Nat) (nP : Nat) (nS : Nat) (x : Int32) (nj : Nat) (A : Nat → Prop) : Array Value → State → Outcome → State → Prop := va_Qv (fun (u : (Nat → Int32) × (Nat → Int32)) => u = f_X8_rules MI mpr mbr mnx mhd mtn sv tw tr ore now nP nS nj) (bx D (fun u => [(o, eMM r (.ref ma) fr I L), (ma, eMI mr MI), ((mr 11), aI k 6 mpr), ((mr 12), aI k 5 mbr), ((mr 13), aI k 5 mnx), ((mr 14), aI k 4 mhd), ((mr 15), aI k 20 mtn), ((r 16), aI k 37 sv), ((r 17), aI k 37 u.1), ((r 32), aI k 37 u.2)]) A) A
abbrev rm_X8_rules : Room := { frames := 4, cells := 0, slots := 0, locals := 160 }
theorem xo_X8_rules : xok yX8_rules 1 := by unfold xok; decide +kernel
set_option maxHeartbeats 8000000 in
theorem m_X8_rules (l : Launch) (D : va_G) (k : KK) (sz : Nat) (o : Nat) (r : Nat → Nat) (fr : Value) (I : Nat → Int32) (L : Nat → Int64) (ma : Nat) (mr : Nat → Nat) (MI : Nat → Int32) (mpr : Nat → Int32) (mbr : Nat → Int32) (mnx : Nat → Int32) (mhd : Nat → Int32) (mtn : Nat → Int32) (sv : Nat → Int32) (tw : Nat → Int32) (tr : Nat → Int32) (ore : Nat) (now : Nat) (nP : Nat) (nS : Nat) (x : Int32) (nj : Nat) (hmS : MI 8 = nI nS) (hS2 : 2 ≤ nS) (hS5 : nS ≤ 5) (hpr : MI 7 = nI nP) (hP1 : 1 ≤ nP) (hP6 : nP ≤ 6) (hroom : ¬ MI 0 = 0) (hlife : ¬ MI 4 = 0) (hhd : ∀ j, j < 4 → ¬ 9 + mhd j = 0) (hs36 : sv 36 = nI ore) (hore : ore < 4) (hs27 : sv 27 = nI now) (hnb : now ≤ 240) (hnj : x = nI nj) (hn5 : nj ≤ 5) : Met l yX8_rules (ws_ yX8_rules cX8_rules 6 none) rm_X8_rules (pcx D k [.ref o, .int x] sz [(o, eMM r (.ref ma) fr I L), (ma, eMI mr MI), ((mr 11), aI k 6 mpr), ((mr 12), aI k 5 mbr), ((mr 13), aI k 5 mnx), ((mr 14), aI k 4 mhd), ((mr 15), aI k 20 mtn), ((r 16), aI k 37 sv), ((r 17), aI k 37 tw), ((r 32), aI k 37 tr)] (fun _ => True)) (q_X8_rules D k o r fr I L ma mr MI mpr mbr mnx mhd mtn sv tw tr ore now nP nS x nj (va_A [(o, eMM r (.ref ma) fr I L), (ma, eMI mr MI), ((mr 11), aI k 6 mpr), ((mr 12), aI k 5 mbr), ((mr 13), aI k 5 mnx), ((mr 14), aI k 4 mhd), ((mr 15), aI k 20 mtn), ((r 16), aI k 37 sv), ((r 17), aI k 37 tw), ((r 32), aI k 37 tr)] sz)) 0 0 (va_A [(o, eMM r (.ref ma) fr I L), (ma, eMI mr MI), ((mr 11), aI k 6 mpr), ((mr 12), aI k 5 mbr), ((mr 13), aI k 5 mnx), ((mr 14), aI k 4 mhd), ((mr 15), aI k 20 mtn), ((r 16), aI k 37 sv), ((r 17), aI k 37 tw), ((r 32), aI k 37 tr)] sz) := by
  refine Met.start (Qc := q_X8_rules D k o r fr I L ma mr MI mpr mbr mnx mhd mtn sv tw tr ore now nP nS x nj) (by decide) (Nat.le_of_ble_eq_true rfl) ?_
  intro p e s m below meth c A hx hb hr hlocks hml hown hin hts hg hP hD hA hAn hS hY hsz ls hl
  have hown : s.vm.findClass RX8 = some m.cls := hown
  have hl : lv_has ls 6 [(0, .ref o), (1, .int x)] := hl
  refine lv_aload_n hx hb dX8_rules_0 rfl (lv_at hl 0 rfl) ?_
  refine xc_v (wc := [(o, eMM r (.ref ma) fr I L), ((r 16), aI k 37 sv), ((r 17), aI k 37 tw)]) (wr := [(ma, eMI mr MI), ((mr 11), aI k 6 mpr), ((mr 12), aI k 5 mbr), ((mr 13), aI k 5 mnx), ((mr 14), aI k 4 mhd), ((mr 15), aI k 20 mtn), ((r 32), aI k 37 tr)]) hP hD hS hA [0, 7, 8] [1, 2, 3, 4, 5, 6, 9] rfl rfl rfl (by decide) (xrV ⟨hx, hb, hml, hown, hts⟩ hg (m_X8_copies l D k _ o r (.ref ma) fr I L sv tw) hP hD [0, 7, 8] rfl rfl trivial (ci := 10) (q0 := 0) rfl rfl rfl q1628 q1630 qs78 q93 q1631 xo_X8_copies ⟨rfl, rfl⟩ ⟨Nat.le_of_ble_eq_true rfl, Nat.le_of_ble_eq_true rfl⟩ hl.1 (Nat.le_of_ble_eq_true rfl) dX8_rules_1 ⟨Nat.le_of_ble_eq_true rfl, Nat.le_of_ble_eq_true rfl⟩ rfl) (fun u1 H locs hw hP hD hS hk => ?_)
  have eu1 := hw
  replace hP : va_P D vwCl [(o, eMM r (.ref ma) fr I L), (ma, eMI mr MI), ((mr 11), aI k 6 mpr), ((mr 12), aI k 5 mbr), ((mr 13), aI k 5 mnx), ((mr 14), aI k 4 mhd), ((mr 15), aI k 20 mtn), ((r 16), aI k 37 sv), ((r 17), aI k 37 u1), ((r 32), aI k 37 tr)] H := hP.sub [7, 0, 1, 2, 3, 4, 5, 8, 9, 6] rfl
  replace hD : va_D A [(o, eMM r (.ref ma) fr I L), (ma, eMI mr MI), ((mr 11), aI k 6 mpr), ((mr 12), aI k 5 mbr), ((mr 13), aI k 5 mnx), ((mr 14), aI k 4 mhd), ((mr 15), aI k 20 mtn), ((r 16), aI k 37 sv), ((r 17), aI k 37 u1), ((r 32), aI k 37 tr)] := hD.sub [7, 0, 1, 2, 3, 4, 5, 8, 9, 6] (by decide) rfl
  refine lv_iconst (v := 0) hx hb dX8_rules_4 ci_0 ?_
  refine lv_istore_n (lv' := [(2, .int 0), (0, .ref o), (1, .int x)]) hx hb dX8_rules_5 rfl hl (Nat.le_of_ble_eq_true rfl) rfl (fun ls hl => ?_)
  have loop2 : ∀ (n2 i2 : Nat) (X2 : (Nat → Int32) × (Nat → Int32)) (H : Heap) (locs : List Loc) (ls : Array Slot), i2 + n2 = nj → X2 = itN (f_X8_rules_l6 MI mpr mbr mnx mhd mtn ore now nP nS) i2 (u1, tr) → va_P D vwCl [(o, eMM r (.ref ma) fr I L), (ma, eMI mr MI), ((mr 11), aI k 6 mpr), ((mr 12), aI k 5 mbr), ((mr 13), aI k 5 mnx), ((mr 14), aI k 4 mhd), ((mr 15), aI k 20 mtn), ((r 16), aI k 37 sv), ((r 17), aI k 37 X2.1), ((r 32), aI k 37 X2.2)] H → va_D A [(o, eMM r (.ref ma) fr I L), (ma, eMI mr MI), ((mr 11), aI k 6 mpr), ((mr 12), aI k 5 mbr), ((mr 13), aI k 5 mnx), ((mr 14), aI k 4 mhd), ((mr 15), aI k 20 mtn), ((r 16), aI k 37 sv), ((r 17), aI k 37 X2.1), ((r 32), aI k 37 X2.2)] → va_S A s.heap H locs → lv_has ls 6 [(2, .int (nI i2)), (0, .ref o), (1, .int x)] → W p l e rm_X8_rules s m ([.ref o, .int x] : List Value).toArray below meth c H locs 0 0 (MQ below (q_X8_rules D k o r fr I L ma mr MI mpr mbr mnx mhd mtn sv tw tr ore now nP nS x nj A) ([.ref o, .int x] : List Value).toArray s 0 0 A) (F0 m 6 ls []) := by
    intro n2
    induction n2 with
    | zero =>
      intro i2 X2 H locs ls hn2 eX2 hP hD hS hl
      have hi2 : i2 = nj := by omega
      rw [hi2] at eX2
      refine lv_iload_n hx hb dX8_rules_6 rfl (lv_at hl 0 rfl) ?_
      refine lv_iload_n hx hb dX8_rules_7 rfl (lv_at hl 2 rfl) ?_
      refine lv_icmp_ge (tgt := 141) hx hb dX8_rules_8 (by decide) (fun _ => ?_) (fun c => absurd (xle_t hnj rfl (by omega) (by omega)) c)
      exact xret_v hx hb hr hlocks (Nat.le_of_ble_eq_true rfl) (Nat.le_of_ble_eq_true rfl) hS.2.2 dX8_rules_141 (fun t ht => ⟨⟨(X2.1, X2.2), rfl, (by subst eX2; subst eu1; exact rfl), by rw [ht]; exact hP, hD⟩, hS.F ht⟩)
    | succ n2 ih2 =>
      intro i2 X2 H locs ls hn2 eX2 hP hD hS hl
      have hi2 : i2 < nj := by omega
      refine lv_iload_n hx hb dX8_rules_6 rfl (lv_at hl 0 rfl) ?_
      refine lv_iload_n hx hb dX8_rules_7 rfl (lv_at hl 2 rfl) ?_
      refine lv_icmp_ge (tgt := 141) hx hb dX8_rules_8 (by decide) (fun c => absurd c (xle_f hnj rfl (by omega) (by omega))) (fun _ => ?_)
      have hri2 : X2.1 27 = nI (now + i2) ∧ X2.1 36 = nI ore := by
        rw [eX2]
        refine itN_inv (P := fun i (Y : (Nat → Int32) × (Nat → Int32)) => Y.1 27 = nI (now + i) ∧ Y.1 36 = nI ore) (N := nj) ?_ (fun i Y hi hY => ?_) i2 (by omega)
        · exact ⟨(by show u1 27 = nI (now + 0); rw [eu1, cp_at 27 (by decide)]; exact hs27), (by show u1 36 = nI ore; rw [eu1, cp_at 36 (by decide)]; exact hs36)⟩
        · refine ⟨?_, ?_⟩
          · show f_X8_goes MI mpr mbr mnx mhd mtn (upd Y.1 34 _) ore nP (now + i) nS 27 = nI (now + (i + 1))
            rw [go_27 hS5, pk_un (by decide), hY.1]; exact (nI_succ _).symm
          · show f_X8_goes MI mpr mbr mnx mhd mtn (upd Y.1 34 _) ore nP (now + i) nS 36 = nI ore
            rw [go_keep hS5 36 (by decide), pk_un (by decide)]; exact hY.2
      refine lv_iconst (v := (-1)) hx hb dX8_rules_11 ci_m1 ?_
      refine lv_istore_n (lv' := [(3, .int (-1)), (2, .int (nI i2)), (0, .ref o), (1, .int x)]) hx hb dX8_rules_12 rfl hl (Nat.le_of_ble_eq_true rfl) rfl (fun ls hl => ?_)
      refine lv_iconst (v := 0) hx hb dX8_rules_13 ci_0 ?_
      refine lv_istore (lv' := [(4, .int 0), (3, .int (-1)), (2, .int (nI i2)), (0, .ref o), (1, .int x)]) hx hb dX8_rules_14 hl (Nat.le_of_ble_eq_true rfl) rfl (fun ls hl => ?_)
      have Jx306 : ∀ (Y306 : (Int32) × (Nat → Int32)) (H : Heap) (locs : List Loc) (ls : Array Slot), Y306 = f_X8_rules_l16 MI mpr mbr mnx mhd mtn ore now nP nS X2 i2 4 0 ((-1), X2.2) → va_P D vwCl [(o, eMM r (.ref ma) fr I L), (ma, eMI mr MI), ((mr 11), aI k 6 mpr), ((mr 12), aI k 5 mbr), ((mr 13), aI k 5 mnx), ((mr 14), aI k 4 mhd), ((mr 15), aI k 20 mtn), ((r 16), aI k 37 sv), ((r 17), aI k 37 X2.1), ((r 32), aI k 37 Y306.2)] H → va_D A [(o, eMM r (.ref ma) fr I L), (ma, eMI mr MI), ((mr 11), aI k 6 mpr), ((mr 12), aI k 5 mbr), ((mr 13), aI k 5 mnx), ((mr 14), aI k 4 mhd), ((mr 15), aI k 20 mtn), ((r 16), aI k 37 sv), ((r 17), aI k 37 X2.1), ((r 32), aI k 37 Y306.2)] → va_S A s.heap H locs → lv_has ls 6 [(3, .int Y306.1), (2, .int (nI i2)), (0, .ref o), (1, .int x)] → W p l e rm_X8_rules s m ([.ref o, .int x] : List Value).toArray below meth c H locs 0 0 (MQ below (q_X8_rules D k o r fr I L ma mr MI mpr mbr mnx mhd mtn sv tw tr ore now nP nS x nj A) ([.ref o, .int x] : List Value).toArray s 0 0 A) (F0 m 110 ls []) := by
        intro Y306 H locs ls eY306 hP hD hS hl
        refine lv_aload_n hx hb dX8_rules_110 rfl (lv_at hl 2 rfl) ?_
        refine va_get (D := D) (ci := 10) (v := .ref (r 17)) (C := RX8) (T := TX8) (N := 37) hx hb hts in_X8 hown hg.1 hP 0 rfl rfl 17 (Nat.le_of_ble_eq_true rfl) (hts _ q1158) (fun _ h9 => h9) rfl dX8_rules_111 ?_
        refine lv_bipush (v := 34) hx hb dX8_rules_114 cb_34 ?_
        refine lv_iload_n hx hb dX8_rules_116 rfl (lv_at hl 0 rfl) ?_
        refine lv_iconst (v := (-1)) hx hb dX8_rules_117 ci_m1 ?_
        have Jn23 : ∀ (v384 : (Int32)) (H : Heap) (locs : List Loc) (ls : Array Slot), v384 = f_X8_rules_j23 Y306 → va_P D vwCl [(o, eMM r (.ref ma) fr I L), (ma, eMI mr MI), ((mr 11), aI k 6 mpr), ((mr 12), aI k 5 mbr), ((mr 13), aI k 5 mnx), ((mr 14), aI k 4 mhd), ((mr 15), aI k 20 mtn), ((r 16), aI k 37 sv), ((r 17), aI k 37 X2.1), ((r 32), aI k 37 Y306.2)] H → va_D A [(o, eMM r (.ref ma) fr I L), (ma, eMI mr MI), ((mr 11), aI k 6 mpr), ((mr 12), aI k 5 mbr), ((mr 13), aI k 5 mnx), ((mr 14), aI k 4 mhd), ((mr 15), aI k 20 mtn), ((r 16), aI k 37 sv), ((r 17), aI k 37 X2.1), ((r 32), aI k 37 Y306.2)] → va_S A s.heap H locs → lv_has ls 6 [(3, .int Y306.1), (2, .int (nI i2)), (0, .ref o), (1, .int x)] → W p l e rm_X8_rules s m ([.ref o, .int x] : List Value).toArray below meth c H locs 0 0 (MQ below (q_X8_rules D k o r fr I L ma mr MI mpr mbr mnx mhd mtn sv tw tr ore now nP nS x nj A) ([.ref o, .int x] : List Value).toArray s 0 0 A) (F0 m 126 ls [.int v384, .int 34, .ref (r 17)]) := by
          intro v384 H locs ls ev384 hP hD hS hl
          refine xa_iast hx hb hg hP hD hS 8 rfl xl_34 (by omega) (by omega) dX8_rules_126 (fun f385 H locs ef385 hP hD hS => ?_)
          replace hP : va_P D vwCl [(o, eMM r (.ref ma) fr I L), (ma, eMI mr MI), ((mr 11), aI k 6 mpr), ((mr 12), aI k 5 mbr), ((mr 13), aI k 5 mnx), ((mr 14), aI k 4 mhd), ((mr 15), aI k 20 mtn), ((r 16), aI k 37 sv), ((r 17), aI k 37 f385), ((r 32), aI k 37 Y306.2)] H := hP
          replace hD : va_D A [(o, eMM r (.ref ma) fr I L), (ma, eMI mr MI), ((mr 11), aI k 6 mpr), ((mr 12), aI k 5 mbr), ((mr 13), aI k 5 mnx), ((mr 14), aI k 4 mhd), ((mr 15), aI k 20 mtn), ((r 16), aI k 37 sv), ((r 17), aI k 37 f385), ((r 32), aI k 37 Y306.2)] := hD
          refine lv_aload_n hx hb dX8_rules_127 rfl (lv_at hl 2 rfl) ?_
          refine lv_aload_n hx hb dX8_rules_128 rfl (lv_at hl 2 rfl) ?_
          refine va_get (D := D) (ci := 10) (v := .ref (r 17)) (C := RX8) (T := TX8) (N := 37) hx hb hts in_X8 hown hg.1 hP 0 rfl rfl 17 (Nat.le_of_ble_eq_true rfl) (hts _ q1158) (fun _ h9 => h9) rfl dX8_rules_129 ?_
          refine xc_v (wc := [(o, eMM r (.ref ma) fr I L), (ma, eMI mr MI), ((mr 11), aI k 6 mpr), ((mr 12), aI k 5 mbr), ((mr 13), aI k 5 mnx), ((mr 14), aI k 4 mhd), ((mr 15), aI k 20 mtn), ((r 17), aI k 37 f385)]) (wr := [((r 16), aI k 37 sv), ((r 32), aI k 37 Y306.2)]) hP hD hS hA [0, 1, 2, 3, 4, 5, 6, 8] [7, 9] rfl rfl rfl (by decide) (xrV ⟨hx, hb, hml, hown, hts⟩ hg (m_X8_goes l D k _ o r fr I L ma mr MI mpr mbr mnx mhd mtn (r 17) f385 ore nP (now + i2) nS hmS hS2 hS5 hore ((show f385 36 = X2.1 36 by rw [ef385]; exact pk_un (by decide)).trans hri2.2) ((show f385 27 = X2.1 27 by rw [ef385]; exact pk_un (by decide)).trans hri2.1) (by omega) hpr hP1 hP6 hroom hlife (hhd _ hore)) hP hD [0, 1, 2, 3, 4, 5, 6, 8] rfl rfl trivial (ci := 10) (q0 := 0) rfl rfl rfl q1518 q1520 qs64 q93 q1521 xo_X8_goes ⟨rfl, rfl⟩ ⟨Nat.le_of_ble_eq_true rfl, Nat.le_of_ble_eq_true rfl⟩ hl.1 (Nat.le_of_ble_eq_true rfl) dX8_rules_132 ⟨Nat.le_of_ble_eq_true rfl, Nat.le_of_ble_eq_true rfl⟩ rfl) (fun u386 H locs hw hP hD hS hk => ?_)
          have eu386 := hw
          replace hP : va_P D vwCl [(o, eMM r (.ref ma) fr I L), (ma, eMI mr MI), ((mr 11), aI k 6 mpr), ((mr 12), aI k 5 mbr), ((mr 13), aI k 5 mnx), ((mr 14), aI k 4 mhd), ((mr 15), aI k 20 mtn), ((r 16), aI k 37 sv), ((r 17), aI k 37 u386), ((r 32), aI k 37 Y306.2)] H := hP.sub [2, 3, 4, 5, 6, 7, 8, 0, 9, 1] rfl
          replace hD : va_D A [(o, eMM r (.ref ma) fr I L), (ma, eMI mr MI), ((mr 11), aI k 6 mpr), ((mr 12), aI k 5 mbr), ((mr 13), aI k 5 mnx), ((mr 14), aI k 4 mhd), ((mr 15), aI k 20 mtn), ((r 16), aI k 37 sv), ((r 17), aI k 37 u386), ((r 32), aI k 37 Y306.2)] := hD.sub [2, 3, 4, 5, 6, 7, 8, 0, 9, 1] (by decide) rfl
          refine lv_iinc (v := (nI (i2 + 1))) (lv' := [(2, .int (nI (i2 + 1))), (3, .int Y306.1), (0, .ref o), (1, .int x)]) hx hb dX8_rules_135 hl (k := 1) rfl (xinc1 _) (Nat.le_of_ble_eq_true rfl) rfl (fun ls hl => ?_)
          refine lv_goto (tgt := 6) hx hb dX8_rules_138 (by decide) ?_
          exact ih2 (i2 + 1) (u386, Y306.2) _ _ _ (by omega) (Eq.trans (by subst eu386; subst ef385; subst ev384; subst eY306; exact rfl) (congrArg (f_X8_rules_l6 MI mpr mbr mnx mhd mtn ore now nP nS i2) eX2)) hP hD hS (lv_sub hl [0, 2, 3] rfl)
        refine lv_icmp_ne (tgt := 125) hx hb dX8_rules_118 (by decide) (fun c387 => ?_) (fun c387 => ?_)
        · refine lv_iload_n hx hb dX8_rules_125 rfl (lv_at hl 0 rfl) ?_
          exact Jn23 Y306.1 _ _ _ (by exact Eq.symm (Eq.trans (if_neg c387) (rfl))) hP hD hS (lv_sub hl [0, 1, 2, 3] rfl)
        · refine lv_iconst (v := 0) hx hb dX8_rules_121 ci_0 ?_
          refine lv_goto (tgt := 126) hx hb dX8_rules_122 (by decide) ?_
          exact Jn23 0 _ _ _ (by exact Eq.symm (Eq.trans (if_pos c387) (rfl))) hP hD hS (lv_sub hl [0, 1, 2, 3] rfl)
      have loop306 : ∀ (n306 i306 : Nat) (X306 : (Int32) × (Nat → Int32)) (H : Heap) (locs : List Loc) (ls : Array Slot), i306 + n306 = 4 → f_X8_rules_l16 MI mpr mbr mnx mhd mtn ore now nP nS X2 i2 n306 i306 X306 = f_X8_rules_l16 MI mpr mbr mnx mhd mtn ore now nP nS X2 i2 4 0 ((-1), X2.2) → va_P D vwCl [(o, eMM r (.ref ma) fr I L), (ma, eMI mr MI), ((mr 11), aI k 6 mpr), ((mr 12), aI k 5 mbr), ((mr 13), aI k 5 mnx), ((mr 14), aI k 4 mhd), ((mr 15), aI k 20 mtn), ((r 16), aI k 37 sv), ((r 17), aI k 37 X2.1), ((r 32), aI k 37 X306.2)] H → va_D A [(o, eMM r (.ref ma) fr I L), (ma, eMI mr MI), ((mr 11), aI k 6 mpr), ((mr 12), aI k 5 mbr), ((mr 13), aI k 5 mnx), ((mr 14), aI k 4 mhd), ((mr 15), aI k 20 mtn), ((r 16), aI k 37 sv), ((r 17), aI k 37 X2.1), ((r 32), aI k 37 X306.2)] → va_S A s.heap H locs → lv_has ls 6 [(4, .int (nI i306)), (3, .int X306.1), (2, .int (nI i2)), (0, .ref o), (1, .int x)] → W p l e rm_X8_rules s m ([.ref o, .int x] : List Value).toArray below meth c H locs 0 0 (MQ below (q_X8_rules D k o r fr I L ma mr MI mpr mbr mnx mhd mtn sv tw tr ore now nP nS x nj A) ([.ref o, .int x] : List Value).toArray s 0 0 A) (F0 m 16 ls []) := by
        intro n306
        induction n306 with
        | zero =>
          intro i306 X306 H locs ls hn306 eX306 hP hD hS hl
          have hi306 : i306 = 4 := by omega
          refine lv_iload hx hb dX8_rules_16 (lv_at hl 0 rfl) ?_
          refine lv_iconst (v := 3) hx hb dX8_rules_18 ci_3 ?_
          refine lv_icmp_gt (tgt := 110) hx hb dX8_rules_19 (by decide) (fun _ => ?_) (fun c => absurd (xlt_t xl_3 rfl (by omega) (by omega)) c)
          exact Jx306 (X306.1, X306.2) _ _ _ (Eq.trans (rfl) eX306) hP hD hS (lv_sub hl [1, 2, 3, 4] rfl)
        | succ n306 ih306 =>
          intro i306 X306 H locs ls hn306 eX306 hP hD hS hl
          have hi306 : i306 < 4 := by omega
          refine lv_iload hx hb dX8_rules_16 (lv_at hl 0 rfl) ?_
          refine lv_iconst (v := 3) hx hb dX8_rules_18 ci_3 ?_
          refine lv_icmp_gt (tgt := 110) hx hb dX8_rules_19 (by decide) (fun c => absurd c (xlt_f xl_3 rfl (by omega) (by omega))) (fun _ => ?_)
          refine lv_iload_n hx hb dX8_rules_22 rfl (lv_at hl 1 rfl) ?_
          refine lv_iconst (v := (-1)) hx hb dX8_rules_23 ci_m1 ?_
          refine lv_icmp_ne (tgt := 110) hx hb dX8_rules_24 (by decide) (fun c388 => ?_) (fun c388 => ?_)
          · exact Jx306 (X306.1, X306.2) _ _ _ (Eq.trans (by exact Eq.symm (Eq.trans (if_neg c388) (rfl))) eX306) hP hD hS (lv_sub hl [1, 2, 3, 4] rfl)
          · refine lv_iconst (v := 0) hx hb dX8_rules_27 ci_0 ?_
            refine lv_istore (lv' := [(5, .int 0), (4, .int (nI i306)), (3, .int X306.1), (2, .int (nI i2)), (0, .ref o), (1, .int x)]) hx hb dX8_rules_28 hl (Nat.le_of_ble_eq_true rfl) rfl (fun ls hl => ?_)
            have loop389 : ∀ (n389 i389 : Nat) (X389 : (Nat → Int32)) (H : Heap) (locs : List Loc) (ls : Array Slot), i389 + n389 = 37 → X389 = itN (f_X8_rules_l30 X2) i389 X306.2 → va_P D vwCl [(o, eMM r (.ref ma) fr I L), (ma, eMI mr MI), ((mr 11), aI k 6 mpr), ((mr 12), aI k 5 mbr), ((mr 13), aI k 5 mnx), ((mr 14), aI k 4 mhd), ((mr 15), aI k 20 mtn), ((r 16), aI k 37 sv), ((r 17), aI k 37 X2.1), ((r 32), aI k 37 X389)] H → va_D A [(o, eMM r (.ref ma) fr I L), (ma, eMI mr MI), ((mr 11), aI k 6 mpr), ((mr 12), aI k 5 mbr), ((mr 13), aI k 5 mnx), ((mr 14), aI k 4 mhd), ((mr 15), aI k 20 mtn), ((r 16), aI k 37 sv), ((r 17), aI k 37 X2.1), ((r 32), aI k 37 X389)] → va_S A s.heap H locs → lv_has ls 6 [(5, .int (nI i389)), (4, .int (nI i306)), (3, .int X306.1), (2, .int (nI i2)), (0, .ref o), (1, .int x)] → W p l e rm_X8_rules s m ([.ref o, .int x] : List Value).toArray below meth c H locs 0 0 (MQ below (q_X8_rules D k o r fr I L ma mr MI mpr mbr mnx mhd mtn sv tw tr ore now nP nS x nj A) ([.ref o, .int x] : List Value).toArray s 0 0 A) (F0 m 30 ls []) := by
              intro n389
              induction n389 with
              | zero =>
                intro i389 X389 H locs ls hn389 eX389 hP hD hS hl
                have hi389 : i389 = 37 := by omega
                rw [hi389] at eX389
                refine lv_iload hx hb dX8_rules_30 (lv_at hl 0 rfl) ?_
                refine lv_bipush (v := 37) hx hb dX8_rules_32 cb_37 ?_
                refine lv_icmp_ge (tgt := 57) hx hb dX8_rules_34 (by decide) (fun _ => ?_) (fun c => absurd (xle_t xl_37 rfl (by omega) (by omega)) c)
                refine lv_aload_n hx hb dX8_rules_57 rfl (lv_at hl 4 rfl) ?_
                refine va_get (D := D) (ci := 10) (v := .ref (r 32)) (C := RX8) (T := TX8) (N := 37) hx hb hts in_X8 hown hg.1 hP 0 rfl rfl 32 (Nat.le_of_ble_eq_true rfl) (hts _ q1173) (fun _ h9 => h9) rfl dX8_rules_58 ?_
                refine lv_bipush (v := 34) hx hb dX8_rules_61 cb_34 ?_
                refine lv_iload hx hb dX8_rules_63 (lv_at hl 1 rfl) ?_
                refine xa_iast hx hb hg hP hD hS 9 rfl xl_34 (by omega) (by omega) dX8_rules_65 (fun f396 H locs ef396 hP hD hS => ?_)
                replace hP : va_P D vwCl [(o, eMM r (.ref ma) fr I L), (ma, eMI mr MI), ((mr 11), aI k 6 mpr), ((mr 12), aI k 5 mbr), ((mr 13), aI k 5 mnx), ((mr 14), aI k 4 mhd), ((mr 15), aI k 20 mtn), ((r 16), aI k 37 sv), ((r 17), aI k 37 X2.1), ((r 32), aI k 37 f396)] H := hP
                replace hD : va_D A [(o, eMM r (.ref ma) fr I L), (ma, eMI mr MI), ((mr 11), aI k 6 mpr), ((mr 12), aI k 5 mbr), ((mr 13), aI k 5 mnx), ((mr 14), aI k 4 mhd), ((mr 15), aI k 20 mtn), ((r 16), aI k 37 sv), ((r 17), aI k 37 X2.1), ((r 32), aI k 37 f396)] := hD
                refine lv_aload_n hx hb dX8_rules_66 rfl (lv_at hl 4 rfl) ?_
                refine lv_aload_n hx hb dX8_rules_67 rfl (lv_at hl 4 rfl) ?_
                refine va_get (D := D) (ci := 10) (v := .ref (r 32)) (C := RX8) (T := TX8) (N := 37) hx hb hts in_X8 hown hg.1 hP 0 rfl rfl 32 (Nat.le_of_ble_eq_true rfl) (hts _ q1173) (fun _ h9 => h9) rfl dX8_rules_68 ?_
                refine xc_v (wc := [(o, eMM r (.ref ma) fr I L), (ma, eMI mr MI), ((mr 11), aI k 6 mpr), ((mr 12), aI k 5 mbr), ((mr 13), aI k 5 mnx), ((mr 14), aI k 4 mhd), ((mr 15), aI k 20 mtn), ((r 32), aI k 37 f396)]) (wr := [((r 16), aI k 37 sv), ((r 17), aI k 37 X2.1)]) hP hD hS hA [0, 1, 2, 3, 4, 5, 6, 9] [7, 8] rfl rfl rfl (by decide) (xrV ⟨hx, hb, hml, hown, hts⟩ hg (m_X8_goes l D k _ o r fr I L ma mr MI mpr mbr mnx mhd mtn (r 32) f396 ore nP (now + i2) nS hmS hS2 hS5 hore ((show f396 36 = X389 36 by rw [ef396]; exact pk_un (by decide)).trans ((show X389 36 = X2.1 36 by rw [eX389]; exact cpy_gen (fun _ _ => rfl) 37 _ 36 (by decide)).trans hri2.2)) ((show f396 27 = X389 27 by rw [ef396]; exact pk_un (by decide)).trans ((show X389 27 = X2.1 27 by rw [eX389]; exact cpy_gen (fun _ _ => rfl) 37 _ 27 (by decide)).trans hri2.1)) (by omega) hpr hP1 hP6 hroom hlife (hhd _ hore)) hP hD [0, 1, 2, 3, 4, 5, 6, 9] rfl rfl trivial (ci := 10) (q0 := 0) rfl rfl rfl q1518 q1520 qs64 q93 q1521 xo_X8_goes ⟨rfl, rfl⟩ ⟨Nat.le_of_ble_eq_true rfl, Nat.le_of_ble_eq_true rfl⟩ hl.1 (Nat.le_of_ble_eq_true rfl) dX8_rules_71 ⟨Nat.le_of_ble_eq_true rfl, Nat.le_of_ble_eq_true rfl⟩ rfl) (fun u397 H locs hw hP hD hS hk => ?_)
                have eu397 := hw
                replace hP : va_P D vwCl [(o, eMM r (.ref ma) fr I L), (ma, eMI mr MI), ((mr 11), aI k 6 mpr), ((mr 12), aI k 5 mbr), ((mr 13), aI k 5 mnx), ((mr 14), aI k 4 mhd), ((mr 15), aI k 20 mtn), ((r 16), aI k 37 sv), ((r 17), aI k 37 X2.1), ((r 32), aI k 37 u397)] H := hP.sub [2, 3, 4, 5, 6, 7, 8, 0, 1, 9] rfl
                replace hD : va_D A [(o, eMM r (.ref ma) fr I L), (ma, eMI mr MI), ((mr 11), aI k 6 mpr), ((mr 12), aI k 5 mbr), ((mr 13), aI k 5 mnx), ((mr 14), aI k 4 mhd), ((mr 15), aI k 20 mtn), ((r 16), aI k 37 sv), ((r 17), aI k 37 X2.1), ((r 32), aI k 37 u397)] := hD.sub [2, 3, 4, 5, 6, 7, 8, 0, 1, 9] (by decide) rfl
                refine lv_aload_n hx hb dX8_rules_74 rfl (lv_at hl 4 rfl) ?_
                refine va_get (D := D) (ci := 10) (v := .ref (r 32)) (C := RX8) (T := TX8) (N := 37) hx hb hts in_X8 hown hg.1 hP 0 rfl rfl 32 (Nat.le_of_ble_eq_true rfl) (hts _ q1173) (fun _ h9 => h9) rfl dX8_rules_75 ?_
                refine lv_bipush (v := 26) hx hb dX8_rules_78 cb_26 ?_
                refine xa_iald hx hb hg hP 9 rfl xl_26 (by first | omega | exact Nat.lt_of_lt_of_le (Nat.mod_lt _ (by omega)) (by omega)) (by omega) dX8_rules_80 ?_
                have Jn24 : ∀ (v402 : (Int32)) (H : Heap) (locs : List Loc) (ls : Array Slot), v402 = f_X8_rules_j24 X2 i306 X306 u397 → va_P D vwCl [(o, eMM r (.ref ma) fr I L), (ma, eMI mr MI), ((mr 11), aI k 6 mpr), ((mr 12), aI k 5 mbr), ((mr 13), aI k 5 mnx), ((mr 14), aI k 4 mhd), ((mr 15), aI k 20 mtn), ((r 16), aI k 37 sv), ((r 17), aI k 37 X2.1), ((r 32), aI k 37 u397)] H → va_D A [(o, eMM r (.ref ma) fr I L), (ma, eMI mr MI), ((mr 11), aI k 6 mpr), ((mr 12), aI k 5 mbr), ((mr 13), aI k 5 mnx), ((mr 14), aI k 4 mhd), ((mr 15), aI k 20 mtn), ((r 16), aI k 37 sv), ((r 17), aI k 37 X2.1), ((r 32), aI k 37 u397)] → va_S A s.heap H locs → lv_has ls 6 [(5, .int (nI i389)), (4, .int (nI i306)), (3, .int v402), (2, .int (nI i2)), (0, .ref o), (1, .int x)] → W p l e rm_X8_rules s m ([.ref o, .int x] : List Value).toArray below meth c H locs 0 0 (MQ below (q_X8_rules D k o r fr I L ma mr MI mpr mbr mnx mhd mtn sv tw tr ore now nP nS x nj A) ([.ref o, .int x] : List Value).toArray s 0 0 A) (F0 m 104 ls []) := by
                  intro v402 H locs ls ev402 hP hD hS hl
                  refine lv_iinc (v := (nI (i306 + 1))) (lv' := [(4, .int (nI (i306 + 1))), (5, .int (nI i389)), (3, .int v402), (2, .int (nI i2)), (0, .ref o), (1, .int x)]) hx hb dX8_rules_104 hl (k := 1) rfl (xinc1 _) (Nat.le_of_ble_eq_true rfl) rfl (fun ls hl => ?_)
                  refine lv_goto (tgt := 16) hx hb dX8_rules_107 (by decide) ?_
                  exact ih306 (i306 + 1) (v402, u397) _ _ _ (by omega) (Eq.trans (by subst ev402; subst eu397; subst ef396; subst eX389; exact Eq.symm (Eq.trans (if_pos c388) (rfl))) eX306) hP hD hS (lv_sub hl [0, 2, 3, 4, 5] rfl)
                refine lv_if_ne (tgt := 104) hx hb dX8_rules_81 (by decide) (fun c403 => ?_) (fun c403 => ?_)
                · exact Jn24 X306.1 _ _ _ (by exact Eq.symm (Eq.trans (if_neg c403) (rfl))) hP hD hS (lv_sub hl [0, 1, 2, 3, 4, 5] rfl)
                · refine lv_aload_n hx hb dX8_rules_84 rfl (lv_at hl 4 rfl) ?_
                  refine va_get (D := D) (ci := 10) (v := .ref (r 32)) (C := RX8) (T := TX8) (N := 37) hx hb hts in_X8 hown hg.1 hP 0 rfl rfl 32 (Nat.le_of_ble_eq_true rfl) (hts _ q1173) (fun _ h9 => h9) rfl dX8_rules_85 ?_
                  refine lv_bipush (v := 23) hx hb dX8_rules_88 cb_23 ?_
                  refine xa_iald hx hb hg hP 9 rfl xl_23 (by first | omega | exact Nat.lt_of_lt_of_le (Nat.mod_lt _ (by omega)) (by omega)) (by omega) dX8_rules_90 ?_
                  refine lv_aload_n hx hb dX8_rules_91 rfl (lv_at hl 4 rfl) ?_
                  refine va_get (D := D) (ci := 10) (v := .ref (r 17)) (C := RX8) (T := TX8) (N := 37) hx hb hts in_X8 hown hg.1 hP 0 rfl rfl 17 (Nat.le_of_ble_eq_true rfl) (hts _ q1158) (fun _ h9 => h9) rfl dX8_rules_92 ?_
                  refine lv_bipush (v := 23) hx hb dX8_rules_95 cb_23 ?_
                  refine xa_iald hx hb hg hP 8 rfl xl_23 (by first | omega | exact Nat.lt_of_lt_of_le (Nat.mod_lt _ (by omega)) (by omega)) (by omega) dX8_rules_97 ?_
                  refine lv_icmp_ne (tgt := 104) hx hb dX8_rules_98 (by decide) (fun c404 => ?_) (fun c404 => ?_)
                  · exact Jn24 X306.1 _ _ _ (by exact Eq.symm (Eq.trans (if_pos c403) (Eq.trans (if_neg c404) (rfl)))) hP hD hS (lv_sub hl [0, 1, 2, 3, 4, 5] rfl)
                  · refine lv_iload hx hb dX8_rules_101 (lv_at hl 1 rfl) ?_
                    refine lv_istore_n (lv' := [(3, .int (nI i306)), (5, .int (nI i389)), (4, .int (nI i306)), (2, .int (nI i2)), (0, .ref o), (1, .int x)]) hx hb dX8_rules_103 rfl hl (Nat.le_of_ble_eq_true rfl) rfl (fun ls hl => ?_)
                    exact Jn24 (nI i306) _ _ _ (by exact Eq.symm (Eq.trans (if_pos c403) (Eq.trans (if_pos c404) (rfl)))) hP hD hS (lv_sub hl [1, 2, 0, 3, 4, 5] rfl)
              | succ n389 ih389 =>
                intro i389 X389 H locs ls hn389 eX389 hP hD hS hl
                have hi389 : i389 < 37 := by omega
                refine lv_iload hx hb dX8_rules_30 (lv_at hl 0 rfl) ?_
                refine lv_bipush (v := 37) hx hb dX8_rules_32 cb_37 ?_
                refine lv_icmp_ge (tgt := 57) hx hb dX8_rules_34 (by decide) (fun c => absurd c (xle_f xl_37 rfl (by omega) (by omega))) (fun _ => ?_)
                refine lv_aload_n hx hb dX8_rules_37 rfl (lv_at hl 4 rfl) ?_
                refine va_get (D := D) (ci := 10) (v := .ref (r 32)) (C := RX8) (T := TX8) (N := 37) hx hb hts in_X8 hown hg.1 hP 0 rfl rfl 32 (Nat.le_of_ble_eq_true rfl) (hts _ q1173) (fun _ h9 => h9) rfl dX8_rules_38 ?_
                refine lv_iload hx hb dX8_rules_41 (lv_at hl 0 rfl) ?_
                refine lv_aload_n hx hb dX8_rules_43 rfl (lv_at hl 4 rfl) ?_
                refine va_get (D := D) (ci := 10) (v := .ref (r 17)) (C := RX8) (T := TX8) (N := 37) hx hb hts in_X8 hown hg.1 hP 0 rfl rfl 17 (Nat.le_of_ble_eq_true rfl) (hts _ q1158) (fun _ h9 => h9) rfl dX8_rules_44 ?_
                refine lv_iload hx hb dX8_rules_47 (lv_at hl 0 rfl) ?_
                refine xa_iald hx hb hg hP 8 rfl rfl (by first | omega | exact Nat.lt_of_lt_of_le (Nat.mod_lt _ (by omega)) (by omega)) (by omega) dX8_rules_49 ?_
                refine lv_topi (fun x405 ex405 => ?_)
                refine xa_iast hx hb hg hP hD hS 9 rfl rfl (by omega) (by omega) dX8_rules_50 (fun f406 H locs ef406 hP hD hS => ?_)
                replace hP : va_P D vwCl [(o, eMM r (.ref ma) fr I L), (ma, eMI mr MI), ((mr 11), aI k 6 mpr), ((mr 12), aI k 5 mbr), ((mr 13), aI k 5 mnx), ((mr 14), aI k 4 mhd), ((mr 15), aI k 20 mtn), ((r 16), aI k 37 sv), ((r 17), aI k 37 X2.1), ((r 32), aI k 37 f406)] H := hP
                replace hD : va_D A [(o, eMM r (.ref ma) fr I L), (ma, eMI mr MI), ((mr 11), aI k 6 mpr), ((mr 12), aI k 5 mbr), ((mr 13), aI k 5 mnx), ((mr 14), aI k 4 mhd), ((mr 15), aI k 20 mtn), ((r 16), aI k 37 sv), ((r 17), aI k 37 X2.1), ((r 32), aI k 37 f406)] := hD
                refine lv_iinc (v := (nI (i389 + 1))) (lv' := [(5, .int (nI (i389 + 1))), (4, .int (nI i306)), (3, .int X306.1), (2, .int (nI i2)), (0, .ref o), (1, .int x)]) hx hb dX8_rules_51 hl (k := 0) rfl (xinc1 _) (Nat.le_of_ble_eq_true rfl) rfl (fun ls hl => ?_)
                refine lv_goto (tgt := 30) hx hb dX8_rules_54 (by decide) ?_
                exact ih389 (i389 + 1) f406 _ _ _ (by omega) (Eq.trans (by subst ef406; subst ex405; exact rfl) (congrArg (f_X8_rules_l30 X2 i389) eX389)) hP hD hS (lv_sub hl [0, 1, 2, 3, 4, 5] rfl)
            exact loop389 37 0 X306.2 _ _ _ (by omega) rfl hP hD hS (by have h := (lv_sub hl [0, 1, 2, 3, 4, 5] rfl); exact h)
      exact loop306 4 0 ((-1), X2.2) _ _ _ (by omega) rfl hP hD hS (lv_sub hl [0, 1, 2, 3, 4] rfl)
  exact loop2 nj 0 (u1, tr) _ _ _ (by omega) rfl hP hD hS (by have h := (lv_sub hl [0, 1, 2] rfl); exact h)

def f_X8_rule (MI : Nat → Int32) (mpr : Nat → Int32) (mbr : Nat → Int32) (mnx : Nat → Int32) (mhd : Nat → Int32) (mtn : Nat → Int32) (sv : Nat → Int32) (tw : Nat → Int32) (tr : Nat → Int32) (ore : Nat) (now : Nat) (nP : Nat) (nS : Nat) (x : Int32) : Int32 × Int32 × Int32 × Int32 × (Nat → Int32) × (Nat → Int32) :=
  let u1 := f_X8_in x 1 5
  if u1 = 0 then
    let u5 := f_X8_refused 2
    (u5.1, 0, u5.2.1, u5.2.2, tw, tr)
  else
    let u3 := f_X8_rules MI mpr mbr mnx mhd mtn sv tw tr ore now nP nS x.toNatClampNeg
    let u4 := f_X8_done ((u3.1 32) - (sv 32))
    (u4.1, 0, u4.2.1, u4.2.2, u3.1, u3.2)
abbrev q_X8_rule (D : va_G) (k : KK) (o : Nat) (r : Nat → Nat) (fr : Value) (I : Nat → Int32) (L : Nat → Int64) (ma : Nat) (mr : Nat → Nat) (MI : Nat → Int32) (mpr : Nat → Int32) (mbr : Nat → Int32) (mnx : Nat → Int32) (mhd : Nat → Int32) (mtn : Nat → Int32) (sv : Nat → Int32) (tw : Nat → Int32) (tr : Nat → Int32) (ore : Nat) (now : Nat) (nP : Nat) (nS : Nat) (x : Int32) (A : Nat → Prop) : Array Value → State → Outcome → State → Prop := va_Qi (fun (r_ : Int32) (u : Int32 × Int32 × Int32 × Int32 × (Nat → Int32) × (Nat → Int32)) => r_ = u.1 ∧ u = f_X8_rule MI mpr mbr mnx mhd mtn sv tw tr ore now nP nS x) (bx D (fun u => [(o, eMM r (.ref ma) fr (upd (upd (upd I 0 u.2.1) 1 u.2.2.1) 2 u.2.2.2.1) L), (ma, eMI mr MI), ((mr 11), aI k 6 mpr), ((mr 12), aI k 5 mbr), ((mr 13), aI k 5 mnx), ((mr 14), aI k 4 mhd), ((mr 15), aI k 20 mtn), ((r 16), aI k 37 sv), ((r 17), aI k 37 u.2.2.2.2.1), ((r 32), aI k 37 u.2.2.2.2.2)]) A) A
abbrev rm_X8_rule : Room := { frames := 5, cells := 0, slots := 0, locals := 200 }
theorem xo_X8_rule : xok yX8_rule 1 := by unfold xok; decide +kernel
set_option maxHeartbeats 8000000 in
theorem m_X8_rule (l : Launch) (D : va_G) (k : KK) (sz : Nat) (o : Nat) (r : Nat → Nat) (fr : Value) (I : Nat → Int32) (L : Nat → Int64) (ma : Nat) (mr : Nat → Nat) (MI : Nat → Int32) (mpr : Nat → Int32) (mbr : Nat → Int32) (mnx : Nat → Int32) (mhd : Nat → Int32) (mtn : Nat → Int32) (sv : Nat → Int32) (tw : Nat → Int32) (tr : Nat → Int32) (ore : Nat) (now : Nat) (nP : Nat) (nS : Nat) (x : Int32) (hmS : MI 8 = nI nS) (hS2 : 2 ≤ nS) (hS5 : nS ≤ 5) (hpr : MI 7 = nI nP) (hP1 : 1 ≤ nP) (hP6 : nP ≤ 6) (hroom : ¬ MI 0 = 0) (hlife : ¬ MI 4 = 0) (hhd : ∀ j, j < 4 → ¬ 9 + mhd j = 0) (hs36 : sv 36 = nI ore) (hore : ore < 4) (hs27 : sv 27 = nI now) (hnb : now ≤ 240) : Met l yX8_rule (ws_ yX8_rule cX8_rule 2 (some .int)) rm_X8_rule (pcx D k [.ref o, .int x] sz [(o, eMM r (.ref ma) fr I L), (ma, eMI mr MI), ((mr 11), aI k 6 mpr), ((mr 12), aI k 5 mbr), ((mr 13), aI k 5 mnx), ((mr 14), aI k 4 mhd), ((mr 15), aI k 20 mtn), ((r 16), aI k 37 sv), ((r 17), aI k 37 tw), ((r 32), aI k 37 tr)] (fun _ => True)) (q_X8_rule D k o r fr I L ma mr MI mpr mbr mnx mhd mtn sv tw tr ore now nP nS x (va_A [(o, eMM r (.ref ma) fr I L), (ma, eMI mr MI), ((mr 11), aI k 6 mpr), ((mr 12), aI k 5 mbr), ((mr 13), aI k 5 mnx), ((mr 14), aI k 4 mhd), ((mr 15), aI k 20 mtn), ((r 16), aI k 37 sv), ((r 17), aI k 37 tw), ((r 32), aI k 37 tr)] sz)) 0 0 (va_A [(o, eMM r (.ref ma) fr I L), (ma, eMI mr MI), ((mr 11), aI k 6 mpr), ((mr 12), aI k 5 mbr), ((mr 13), aI k 5 mnx), ((mr 14), aI k 4 mhd), ((mr 15), aI k 20 mtn), ((r 16), aI k 37 sv), ((r 17), aI k 37 tw), ((r 32), aI k 37 tr)] sz) := by
  refine Met.start (Qc := q_X8_rule D k o r fr I L ma mr MI mpr mbr mnx mhd mtn sv tw tr ore now nP nS x) (by decide) (Nat.le_of_ble_eq_true rfl) ?_
  intro p e s m below meth c A hx hb hr hlocks hml hown hin hts hg hP hD hA hAn hS hY hsz ls hl
  have hown : s.vm.findClass RX8 = some m.cls := hown
  have hl : lv_has ls 2 [(0, .ref o), (1, .int x)] := hl
  refine lv_aload_n hx hb dX8_rule_0 rfl (lv_at hl 0 rfl) ?_
  refine lv_iconst (v := 0) hx hb dX8_rule_1 ci_0 ?_
  refine va_put (D := D) (ci := 10) (v := .int 0) (C := RX8) (T := TX8) (N := 37) hx hb hts in_X8 tyX8 tyX8_ok nmX8 hown hg.1 hP hD hS 0 rfl rfl 0 (Nat.le_of_ble_eq_true rfl) (hts _ q1141) (fun _ h9 => h9) rfl ftX8_0 rfl rfl (Nat.le_of_ble_eq_true rfl) dX8_rule_2 (fun H locs hP hD hS => ?_)
  replace hP : va_P D vwCl [(o, eMM r (.ref ma) fr (upd I 0 0) L), (ma, eMI mr MI), ((mr 11), aI k 6 mpr), ((mr 12), aI k 5 mbr), ((mr 13), aI k 5 mnx), ((mr 14), aI k 4 mhd), ((mr 15), aI k 20 mtn), ((r 16), aI k 37 sv), ((r 17), aI k 37 tw), ((r 32), aI k 37 tr)] H := hP
  replace hD : va_D A [(o, eMM r (.ref ma) fr (upd I 0 0) L), (ma, eMI mr MI), ((mr 11), aI k 6 mpr), ((mr 12), aI k 5 mbr), ((mr 13), aI k 5 mnx), ((mr 14), aI k 4 mhd), ((mr 15), aI k 20 mtn), ((r 16), aI k 37 sv), ((r 17), aI k 37 tw), ((r 32), aI k 37 tr)] := hD
  refine lv_aload_n hx hb dX8_rule_5 rfl (lv_at hl 0 rfl) ?_
  refine va_get (D := D) (ci := 10) (v := .ref ma) (C := RX8) (T := TX8) (N := 37) hx hb hts in_X8 hown hg.1 hP 0 rfl rfl 3 (Nat.le_of_ble_eq_true rfl) (hts _ q1144) (fun _ h9 => h9) rfl dX8_rule_6 ?_
  refine lv_ifnonnull (tgt := 18) hx hb dX8_rule_9 (by decide) ?_
  refine lv_iload_n hx hb dX8_rule_18 rfl (lv_at hl 1 rfl) ?_
  refine lv_iconst (v := 1) hx hb dX8_rule_19 ci_1 ?_
  refine lv_iconst (v := 5) hx hb dX8_rule_20 ci_5 ?_
  refine xc_i (wc := []) (wr := [(o, eMM r (.ref ma) fr (upd I 0 0) L), (ma, eMI mr MI), ((mr 11), aI k 6 mpr), ((mr 12), aI k 5 mbr), ((mr 13), aI k 5 mnx), ((mr 14), aI k 4 mhd), ((mr 15), aI k 20 mtn), ((r 16), aI k 37 sv), ((r 17), aI k 37 tw), ((r 32), aI k 37 tr)]) hP hD hS hA [] [0, 1, 2, 3, 4, 5, 6, 7, 8, 9] rfl rfl rfl (by decide) (xrS ⟨hx, hb, hml, hown, hts⟩ hg (m_X8_in l D k _ x 1 5) hP hD [] rfl rfl trivial q1426 q1427 q93 q1428 xo_X8_in ⟨rfl, rfl⟩ ⟨Nat.le_of_ble_eq_true rfl, Nat.le_of_ble_eq_true rfl⟩ hl.1 (Nat.le_of_ble_eq_true rfl) dX8_rule_21 ⟨Nat.le_of_ble_eq_true rfl, Nat.le_of_ble_eq_true rfl⟩ rfl) (fun u1 r_ H locs hw hP hD hS hk => ?_)
  obtain ⟨rfl, eu1, bu1⟩ := hw
  replace hP : va_P D vwCl [(o, eMM r (.ref ma) fr (upd I 0 0) L), (ma, eMI mr MI), ((mr 11), aI k 6 mpr), ((mr 12), aI k 5 mbr), ((mr 13), aI k 5 mnx), ((mr 14), aI k 4 mhd), ((mr 15), aI k 20 mtn), ((r 16), aI k 37 sv), ((r 17), aI k 37 tw), ((r 32), aI k 37 tr)] H := hP.sub [0, 1, 2, 3, 4, 5, 6, 7, 8, 9] rfl
  replace hD : va_D A [(o, eMM r (.ref ma) fr (upd I 0 0) L), (ma, eMI mr MI), ((mr 11), aI k 6 mpr), ((mr 12), aI k 5 mbr), ((mr 13), aI k 5 mnx), ((mr 14), aI k 4 mhd), ((mr 15), aI k 20 mtn), ((r 16), aI k 37 sv), ((r 17), aI k 37 tw), ((r 32), aI k 37 tr)] := hD.sub [0, 1, 2, 3, 4, 5, 6, 7, 8, 9] (by decide) rfl
  refine lv_if_ne (tgt := 33) hx hb dX8_rule_24 (by decide) (fun c2 => ?_) (fun c2 => ?_)
  · obtain ⟨hn_x, hb_1, hb_5⟩ := m_in15 (fun h => c2 (eu1.trans h))
    refine lv_aload_n hx hb dX8_rule_33 rfl (lv_at hl 0 rfl) ?_
    refine lv_iload_n hx hb dX8_rule_34 rfl (lv_at hl 1 rfl) ?_
    refine xc_v (wc := [(o, eMM r (.ref ma) fr (upd I 0 0) L), (ma, eMI mr MI), ((mr 11), aI k 6 mpr), ((mr 12), aI k 5 mbr), ((mr 13), aI k 5 mnx), ((mr 14), aI k 4 mhd), ((mr 15), aI k 20 mtn), ((r 16), aI k 37 sv), ((r 17), aI k 37 tw), ((r 32), aI k 37 tr)]) (wr := []) hP hD hS hA [0, 1, 2, 3, 4, 5, 6, 7, 8, 9] [] rfl rfl rfl (by decide) (xrV ⟨hx, hb, hml, hown, hts⟩ hg (m_X8_rules l D k _ o r fr (upd I 0 0) L ma mr MI mpr mbr mnx mhd mtn sv tw tr ore now nP nS x x.toNatClampNeg hmS hS2 hS5 hpr hP1 hP6 hroom hlife hhd hs36 hore hs27 hnb hn_x hb_5) hP hD [0, 1, 2, 3, 4, 5, 6, 7, 8, 9] rfl rfl trivial (ci := 10) (q0 := 0) rfl rfl rfl q1640 q1642 qs79 q93 q1643 xo_X8_rules ⟨rfl, rfl⟩ ⟨Nat.le_of_ble_eq_true rfl, Nat.le_of_ble_eq_true rfl⟩ hl.1 (Nat.le_of_ble_eq_true rfl) dX8_rule_35 ⟨Nat.le_of_ble_eq_true rfl, Nat.le_of_ble_eq_true rfl⟩ rfl) (fun u3 H locs hw hP hD hS hk => ?_)
    have eu3 := hw
    replace hP : va_P D vwCl [(o, eMM r (.ref ma) fr (upd I 0 0) L), (ma, eMI mr MI), ((mr 11), aI k 6 mpr), ((mr 12), aI k 5 mbr), ((mr 13), aI k 5 mnx), ((mr 14), aI k 4 mhd), ((mr 15), aI k 20 mtn), ((r 16), aI k 37 sv), ((r 17), aI k 37 u3.1), ((r 32), aI k 37 u3.2)] H := hP.sub [0, 1, 2, 3, 4, 5, 6, 7, 8, 9] rfl
    replace hD : va_D A [(o, eMM r (.ref ma) fr (upd I 0 0) L), (ma, eMI mr MI), ((mr 11), aI k 6 mpr), ((mr 12), aI k 5 mbr), ((mr 13), aI k 5 mnx), ((mr 14), aI k 4 mhd), ((mr 15), aI k 20 mtn), ((r 16), aI k 37 sv), ((r 17), aI k 37 u3.1), ((r 32), aI k 37 u3.2)] := hD.sub [0, 1, 2, 3, 4, 5, 6, 7, 8, 9] (by decide) rfl
    refine lv_aload_n hx hb dX8_rule_38 rfl (lv_at hl 0 rfl) ?_
    refine lv_aload_n hx hb dX8_rule_39 rfl (lv_at hl 0 rfl) ?_
    refine va_get (D := D) (ci := 10) (v := .ref (r 17)) (C := RX8) (T := TX8) (N := 37) hx hb hts in_X8 hown hg.1 hP 0 rfl rfl 17 (Nat.le_of_ble_eq_true rfl) (hts _ q1158) (fun _ h9 => h9) rfl dX8_rule_40 ?_
    refine lv_bipush (v := 32) hx hb dX8_rule_43 cb_32 ?_
    refine xa_iald hx hb hg hP 8 rfl xl_32 (by first | omega | exact Nat.lt_of_lt_of_le (Nat.mod_lt _ (by omega)) (by omega)) (by omega) dX8_rule_45 ?_
    refine lv_aload_n hx hb dX8_rule_46 rfl (lv_at hl 0 rfl) ?_
    refine va_get (D := D) (ci := 10) (v := .ref (r 16)) (C := RX8) (T := TX8) (N := 37) hx hb hts in_X8 hown hg.1 hP 0 rfl rfl 16 (Nat.le_of_ble_eq_true rfl) (hts _ q1157) (fun _ h9 => h9) rfl dX8_rule_47 ?_
    refine lv_bipush (v := 32) hx hb dX8_rule_50 cb_32 ?_
    refine xa_iald hx hb hg hP 7 rfl xl_32 (by first | omega | exact Nat.lt_of_lt_of_le (Nat.mod_lt _ (by omega)) (by omega)) (by omega) dX8_rule_52 ?_
    refine lv_isub hx hb dX8_rule_53 ?_
    refine xc_i (wc := [(o, eMM r (.ref ma) fr (upd I 0 0) L)]) (wr := [(ma, eMI mr MI), ((mr 11), aI k 6 mpr), ((mr 12), aI k 5 mbr), ((mr 13), aI k 5 mnx), ((mr 14), aI k 4 mhd), ((mr 15), aI k 20 mtn), ((r 16), aI k 37 sv), ((r 17), aI k 37 u3.1), ((r 32), aI k 37 u3.2)]) hP hD hS hA [0] [1, 2, 3, 4, 5, 6, 7, 8, 9] rfl rfl rfl (by decide) (xrV ⟨hx, hb, hml, hown, hts⟩ hg (m_X8_done l D k _ o r (.ref ma) fr (upd I 0 0) L ((u3.1 32) - (sv 32))) hP hD [0] rfl rfl trivial (ci := 10) (q0 := 0) rfl rfl rfl q1482 q1484 qs60 q93 q1485 xo_X8_done ⟨rfl, rfl⟩ ⟨Nat.le_of_ble_eq_true rfl, Nat.le_of_ble_eq_true rfl⟩ hl.1 (Nat.le_of_ble_eq_true rfl) dX8_rule_54 ⟨Nat.le_of_ble_eq_true rfl, Nat.le_of_ble_eq_true rfl⟩ rfl) (fun r_ u4 H locs hw hP hD hS hk => ?_)
    obtain ⟨rfl, eu4⟩ := hw
    replace hP : va_P D vwCl [(o, eMM r (.ref ma) fr (upd (upd (upd I 0 0) 1 u4.2.1) 2 u4.2.2) L), (ma, eMI mr MI), ((mr 11), aI k 6 mpr), ((mr 12), aI k 5 mbr), ((mr 13), aI k 5 mnx), ((mr 14), aI k 4 mhd), ((mr 15), aI k 20 mtn), ((r 16), aI k 37 sv), ((r 17), aI k 37 u3.1), ((r 32), aI k 37 u3.2)] H := hP.sub [9, 0, 1, 2, 3, 4, 5, 6, 7, 8] rfl
    replace hD : va_D A [(o, eMM r (.ref ma) fr (upd (upd (upd I 0 0) 1 u4.2.1) 2 u4.2.2) L), (ma, eMI mr MI), ((mr 11), aI k 6 mpr), ((mr 12), aI k 5 mbr), ((mr 13), aI k 5 mnx), ((mr 14), aI k 4 mhd), ((mr 15), aI k 20 mtn), ((r 16), aI k 37 sv), ((r 17), aI k 37 u3.1), ((r 32), aI k 37 u3.2)] := hD.sub [9, 0, 1, 2, 3, 4, 5, 6, 7, 8] (by decide) rfl
    exact xret_i hx hb hr hlocks (Nat.le_of_ble_eq_true rfl) (Nat.le_of_ble_eq_true rfl) hS.2.2 dX8_rule_57 (fun t ht => ⟨⟨u4.1, (u4.1, 0, u4.2.1, u4.2.2, u3.1, u3.2), rfl, ⟨rfl, (by subst eu4; subst eu3; subst eu1; exact Eq.symm (Eq.trans (if_neg c2) (rfl)))⟩, by rw [ht]; exact hP, hD⟩, hS.F ht⟩)
  · refine lv_aload_n hx hb dX8_rule_27 rfl (lv_at hl 0 rfl) ?_
    refine lv_iconst (v := 2) hx hb dX8_rule_28 ci_2 ?_
    refine xc_i (wc := [(o, eMM r (.ref ma) fr (upd I 0 0) L)]) (wr := [(ma, eMI mr MI), ((mr 11), aI k 6 mpr), ((mr 12), aI k 5 mbr), ((mr 13), aI k 5 mnx), ((mr 14), aI k 4 mhd), ((mr 15), aI k 20 mtn), ((r 16), aI k 37 sv), ((r 17), aI k 37 tw), ((r 32), aI k 37 tr)]) hP hD hS hA [0] [1, 2, 3, 4, 5, 6, 7, 8, 9] rfl rfl rfl (by decide) (xrV ⟨hx, hb, hml, hown, hts⟩ hg (m_X8_refused l D k _ o r (.ref ma) fr (upd I 0 0) L 2) hP hD [0] rfl rfl trivial (ci := 10) (q0 := 0) rfl rfl rfl q1265 q1267 qs39 q93 q1268 xo_X8_refused ⟨rfl, rfl⟩ ⟨Nat.le_of_ble_eq_true rfl, Nat.le_of_ble_eq_true rfl⟩ hl.1 (Nat.le_of_ble_eq_true rfl) dX8_rule_29 ⟨Nat.le_of_ble_eq_true rfl, Nat.le_of_ble_eq_true rfl⟩ rfl) (fun r_ u5 H locs hw hP hD hS hk => ?_)
    obtain ⟨rfl, eu5⟩ := hw
    replace hP : va_P D vwCl [(o, eMM r (.ref ma) fr (upd (upd (upd I 0 0) 1 u5.2.1) 2 u5.2.2) L), (ma, eMI mr MI), ((mr 11), aI k 6 mpr), ((mr 12), aI k 5 mbr), ((mr 13), aI k 5 mnx), ((mr 14), aI k 4 mhd), ((mr 15), aI k 20 mtn), ((r 16), aI k 37 sv), ((r 17), aI k 37 tw), ((r 32), aI k 37 tr)] H := hP.sub [9, 0, 1, 2, 3, 4, 5, 6, 7, 8] rfl
    replace hD : va_D A [(o, eMM r (.ref ma) fr (upd (upd (upd I 0 0) 1 u5.2.1) 2 u5.2.2) L), (ma, eMI mr MI), ((mr 11), aI k 6 mpr), ((mr 12), aI k 5 mbr), ((mr 13), aI k 5 mnx), ((mr 14), aI k 4 mhd), ((mr 15), aI k 20 mtn), ((r 16), aI k 37 sv), ((r 17), aI k 37 tw), ((r 32), aI k 37 tr)] := hD.sub [9, 0, 1, 2, 3, 4, 5, 6, 7, 8] (by decide) rfl
    exact xret_i hx hb hr hlocks (Nat.le_of_ble_eq_true rfl) (Nat.le_of_ble_eq_true rfl) hS.2.2 dX8_rule_32 (fun t ht => ⟨⟨u5.1, (u5.1, 0, u5.2.1, u5.2.2, tw, tr), rfl, ⟨rfl, (by subst eu5; subst eu1; exact Eq.symm (Eq.trans (if_pos c2) (rfl)))⟩, by rw [ht]; exact hP, hD⟩, hS.F ht⟩)

def f_X8_ruleN  : Int32 × Int32 × Int32 × Int32 :=
  let u1 := f_X8_refused 1
  (u1.1, 0, u1.2.1, u1.2.2)
abbrev q_X8_ruleN (D : va_G) (k : KK) (o : Nat) (r : Nat → Nat) (fr : Value) (I : Nat → Int32) (L : Nat → Int64) (x : Int32) (A : Nat → Prop) : Array Value → State → Outcome → State → Prop := va_Qi (fun (r_ : Int32) (u : Int32 × Int32 × Int32 × Int32) => r_ = u.1 ∧ u = f_X8_ruleN) (bx D (fun u => [(o, eMM r .null fr (upd (upd (upd I 0 u.2.1) 1 u.2.2.1) 2 u.2.2.2) L)]) A) A
abbrev rm_X8_ruleN : Room := { frames := 5, cells := 0, slots := 0, locals := 200 }
set_option maxHeartbeats 8000000 in
theorem m_X8_ruleN (l : Launch) (D : va_G) (k : KK) (sz : Nat) (o : Nat) (r : Nat → Nat) (fr : Value) (I : Nat → Int32) (L : Nat → Int64) (x : Int32)  : Met l yX8_rule (ws_ yX8_rule cX8_rule 2 (some .int)) rm_X8_ruleN (pcx D k [.ref o, .int x] sz [(o, eMM r .null fr I L)] (fun _ => True)) (q_X8_ruleN D k o r fr I L x (va_A [(o, eMM r .null fr I L)] sz)) 0 0 (va_A [(o, eMM r .null fr I L)] sz) := by
  refine Met.start (Qc := q_X8_ruleN D k o r fr I L x) (by decide) (Nat.le_of_ble_eq_true rfl) ?_
  intro p e s m below meth c A hx hb hr hlocks hml hown hin hts hg hP hD hA hAn hS hY hsz ls hl
  have hown : s.vm.findClass RX8 = some m.cls := hown
  have hl : lv_has ls 2 [(0, .ref o), (1, .int x)] := hl
  refine lv_aload_n hx hb dX8_rule_0 rfl (lv_at hl 0 rfl) ?_
  refine lv_iconst (v := 0) hx hb dX8_rule_1 ci_0 ?_
  refine va_put (D := D) (ci := 10) (v := .int 0) (C := RX8) (T := TX8) (N := 37) hx hb hts in_X8 tyX8 tyX8_ok nmX8 hown hg.1 hP hD hS 0 rfl rfl 0 (Nat.le_of_ble_eq_true rfl) (hts _ q1141) (fun _ h9 => h9) rfl ftX8_0 rfl rfl (Nat.le_of_ble_eq_true rfl) dX8_rule_2 (fun H locs hP hD hS => ?_)
  replace hP : va_P D vwCl [(o, eMM r .null fr (upd I 0 0) L)] H := hP
  replace hD : va_D A [(o, eMM r .null fr (upd I 0 0) L)] := hD
  refine lv_aload_n hx hb dX8_rule_5 rfl (lv_at hl 0 rfl) ?_
  refine va_get (D := D) (ci := 10) (v := .null) (C := RX8) (T := TX8) (N := 37) hx hb hts in_X8 hown hg.1 hP 0 rfl rfl 3 (Nat.le_of_ble_eq_true rfl) (hts _ q1144) (fun _ h9 => h9) rfl dX8_rule_6 ?_
  refine lv_ifnonnullN hx hb dX8_rule_9 ?_
  refine lv_aload_n hx hb dX8_rule_12 rfl (lv_at hl 0 rfl) ?_
  refine lv_iconst (v := 1) hx hb dX8_rule_13 ci_1 ?_
  refine xc_i (wc := [(o, eMM r .null fr (upd I 0 0) L)]) (wr := []) hP hD hS hA [0] [] rfl rfl rfl (by decide) (xrV ⟨hx, hb, hml, hown, hts⟩ hg (m_X8_refused l D k _ o r .null fr (upd I 0 0) L 1) hP hD [0] rfl rfl trivial (ci := 10) (q0 := 0) rfl rfl rfl q1265 q1267 qs39 q93 q1268 xo_X8_refused ⟨rfl, rfl⟩ ⟨Nat.le_of_ble_eq_true rfl, Nat.le_of_ble_eq_true rfl⟩ hl.1 (Nat.le_of_ble_eq_true rfl) dX8_rule_14 ⟨Nat.le_of_ble_eq_true rfl, Nat.le_of_ble_eq_true rfl⟩ rfl) (fun r_ u1 H locs hw hP hD hS hk => ?_)
  obtain ⟨rfl, eu1⟩ := hw
  replace hP : va_P D vwCl [(o, eMM r .null fr (upd (upd (upd I 0 0) 1 u1.2.1) 2 u1.2.2) L)] H := hP.sub [0] rfl
  replace hD : va_D A [(o, eMM r .null fr (upd (upd (upd I 0 0) 1 u1.2.1) 2 u1.2.2) L)] := hD.sub [0] (by decide) rfl
  exact xret_i hx hb hr hlocks (Nat.le_of_ble_eq_true rfl) (Nat.le_of_ble_eq_true rfl) hS.2.2 dX8_rule_17 (fun t ht => ⟨⟨u1.1, (u1.1, 0, u1.2.1, u1.2.2), rfl, ⟨rfl, (by subst eu1; exact rfl)⟩, by rw [ht]; exact hP, hD⟩, hS.F ht⟩)

def f_X8_lacks (MI : Nat → Int32) (mpr : Nat → Int32) (mbr : Nat → Int32) (mnx : Nat → Int32) (mhd : Nat → Int32) (mtn : Nat → Int32) (sv : Nat → Int32) (tw : Nat → Int32) (tr : Nat → Int32) (ore : Nat) (now : Nat) (nP : Nat) (nS : Nat) (x : Int32) : Int32 × Int32 × Int32 × Int32 × (Nat → Int32) × (Nat → Int32) :=
  let u1 := f_X8_in x 1 5
  if u1 = 0 then
    let u5 := f_X8_refused 2
    (u5.1, 0, u5.2.1, u5.2.2, tw, tr)
  else
    let u3 := f_X8_rules MI mpr mbr mnx mhd mtn sv tw tr ore now nP nS x.toNatClampNeg
    let u4 := f_X8_done ((u3.1 23) - (sv 23))
    (u4.1, 0, u4.2.1, u4.2.2, u3.1, u3.2)
abbrev q_X8_lacks (D : va_G) (k : KK) (o : Nat) (r : Nat → Nat) (fr : Value) (I : Nat → Int32) (L : Nat → Int64) (ma : Nat) (mr : Nat → Nat) (MI : Nat → Int32) (mpr : Nat → Int32) (mbr : Nat → Int32) (mnx : Nat → Int32) (mhd : Nat → Int32) (mtn : Nat → Int32) (sv : Nat → Int32) (tw : Nat → Int32) (tr : Nat → Int32) (ore : Nat) (now : Nat) (nP : Nat) (nS : Nat) (x : Int32) (A : Nat → Prop) : Array Value → State → Outcome → State → Prop := va_Qi (fun (r_ : Int32) (u : Int32 × Int32 × Int32 × Int32 × (Nat → Int32) × (Nat → Int32)) => r_ = u.1 ∧ u = f_X8_lacks MI mpr mbr mnx mhd mtn sv tw tr ore now nP nS x) (bx D (fun u => [(o, eMM r (.ref ma) fr (upd (upd (upd I 0 u.2.1) 1 u.2.2.1) 2 u.2.2.2.1) L), (ma, eMI mr MI), ((mr 11), aI k 6 mpr), ((mr 12), aI k 5 mbr), ((mr 13), aI k 5 mnx), ((mr 14), aI k 4 mhd), ((mr 15), aI k 20 mtn), ((r 16), aI k 37 sv), ((r 17), aI k 37 u.2.2.2.2.1), ((r 32), aI k 37 u.2.2.2.2.2)]) A) A
abbrev rm_X8_lacks : Room := { frames := 5, cells := 0, slots := 0, locals := 200 }
theorem xo_X8_lacks : xok yX8_lacks 1 := by unfold xok; decide +kernel
set_option maxHeartbeats 8000000 in
theorem m_X8_lacks (l : Launch) (D : va_G) (k : KK) (sz : Nat) (o : Nat) (r : Nat → Nat) (fr : Value) (I : Nat → Int32) (L : Nat → Int64) (ma : Nat) (mr : Nat → Nat) (MI : Nat → Int32) (mpr : Nat → Int32) (mbr : Nat → Int32) (mnx : Nat → Int32) (mhd : Nat → Int32) (mtn : Nat → Int32) (sv : Nat → Int32) (tw : Nat → Int32) (tr : Nat → Int32) (ore : Nat) (now : Nat) (nP : Nat) (nS : Nat) (x : Int32) (hmS : MI 8 = nI nS) (hS2 : 2 ≤ nS) (hS5 : nS ≤ 5) (hpr : MI 7 = nI nP) (hP1 : 1 ≤ nP) (hP6 : nP ≤ 6) (hroom : ¬ MI 0 = 0) (hlife : ¬ MI 4 = 0) (hhd : ∀ j, j < 4 → ¬ 9 + mhd j = 0) (hs36 : sv 36 = nI ore) (hore : ore < 4) (hs27 : sv 27 = nI now) (hnb : now ≤ 240) : Met l yX8_lacks (ws_ yX8_lacks cX8_lacks 2 (some .int)) rm_X8_lacks (pcx D k [.ref o, .int x] sz [(o, eMM r (.ref ma) fr I L), (ma, eMI mr MI), ((mr 11), aI k 6 mpr), ((mr 12), aI k 5 mbr), ((mr 13), aI k 5 mnx), ((mr 14), aI k 4 mhd), ((mr 15), aI k 20 mtn), ((r 16), aI k 37 sv), ((r 17), aI k 37 tw), ((r 32), aI k 37 tr)] (fun _ => True)) (q_X8_lacks D k o r fr I L ma mr MI mpr mbr mnx mhd mtn sv tw tr ore now nP nS x (va_A [(o, eMM r (.ref ma) fr I L), (ma, eMI mr MI), ((mr 11), aI k 6 mpr), ((mr 12), aI k 5 mbr), ((mr 13), aI k 5 mnx), ((mr 14), aI k 4 mhd), ((mr 15), aI k 20 mtn), ((r 16), aI k 37 sv), ((r 17), aI k 37 tw), ((r 32), aI k 37 tr)] sz)) 0 0 (va_A [(o, eMM r (.ref ma) fr I L), (ma, eMI mr MI), ((mr 11), aI k 6 mpr), ((mr 12), aI k 5 mbr), ((mr 13), aI k 5 mnx), ((mr 14), aI k 4 mhd), ((mr 15), aI k 20 mtn), ((r 16), aI k 37 sv), ((r 17), aI k 37 tw), ((r 32), aI k 37 tr)] sz) := by
  refine Met.start (Qc := q_X8_lacks D k o r fr I L ma mr MI mpr mbr mnx mhd mtn sv tw tr ore now nP nS x) (by decide) (Nat.le_of_ble_eq_true rfl) ?_
  intro p e s m below meth c A hx hb hr hlocks hml hown hin hts hg hP hD hA hAn hS hY hsz ls hl
  have hown : s.vm.findClass RX8 = some m.cls := hown
  have hl : lv_has ls 2 [(0, .ref o), (1, .int x)] := hl
  refine lv_aload_n hx hb dX8_lacks_0 rfl (lv_at hl 0 rfl) ?_
  refine lv_iconst (v := 0) hx hb dX8_lacks_1 ci_0 ?_
  refine va_put (D := D) (ci := 10) (v := .int 0) (C := RX8) (T := TX8) (N := 37) hx hb hts in_X8 tyX8 tyX8_ok nmX8 hown hg.1 hP hD hS 0 rfl rfl 0 (Nat.le_of_ble_eq_true rfl) (hts _ q1141) (fun _ h9 => h9) rfl ftX8_0 rfl rfl (Nat.le_of_ble_eq_true rfl) dX8_lacks_2 (fun H locs hP hD hS => ?_)
  replace hP : va_P D vwCl [(o, eMM r (.ref ma) fr (upd I 0 0) L), (ma, eMI mr MI), ((mr 11), aI k 6 mpr), ((mr 12), aI k 5 mbr), ((mr 13), aI k 5 mnx), ((mr 14), aI k 4 mhd), ((mr 15), aI k 20 mtn), ((r 16), aI k 37 sv), ((r 17), aI k 37 tw), ((r 32), aI k 37 tr)] H := hP
  replace hD : va_D A [(o, eMM r (.ref ma) fr (upd I 0 0) L), (ma, eMI mr MI), ((mr 11), aI k 6 mpr), ((mr 12), aI k 5 mbr), ((mr 13), aI k 5 mnx), ((mr 14), aI k 4 mhd), ((mr 15), aI k 20 mtn), ((r 16), aI k 37 sv), ((r 17), aI k 37 tw), ((r 32), aI k 37 tr)] := hD
  refine lv_aload_n hx hb dX8_lacks_5 rfl (lv_at hl 0 rfl) ?_
  refine va_get (D := D) (ci := 10) (v := .ref ma) (C := RX8) (T := TX8) (N := 37) hx hb hts in_X8 hown hg.1 hP 0 rfl rfl 3 (Nat.le_of_ble_eq_true rfl) (hts _ q1144) (fun _ h9 => h9) rfl dX8_lacks_6 ?_
  refine lv_ifnonnull (tgt := 18) hx hb dX8_lacks_9 (by decide) ?_
  refine lv_iload_n hx hb dX8_lacks_18 rfl (lv_at hl 1 rfl) ?_
  refine lv_iconst (v := 1) hx hb dX8_lacks_19 ci_1 ?_
  refine lv_iconst (v := 5) hx hb dX8_lacks_20 ci_5 ?_
  refine xc_i (wc := []) (wr := [(o, eMM r (.ref ma) fr (upd I 0 0) L), (ma, eMI mr MI), ((mr 11), aI k 6 mpr), ((mr 12), aI k 5 mbr), ((mr 13), aI k 5 mnx), ((mr 14), aI k 4 mhd), ((mr 15), aI k 20 mtn), ((r 16), aI k 37 sv), ((r 17), aI k 37 tw), ((r 32), aI k 37 tr)]) hP hD hS hA [] [0, 1, 2, 3, 4, 5, 6, 7, 8, 9] rfl rfl rfl (by decide) (xrS ⟨hx, hb, hml, hown, hts⟩ hg (m_X8_in l D k _ x 1 5) hP hD [] rfl rfl trivial q1426 q1427 q93 q1428 xo_X8_in ⟨rfl, rfl⟩ ⟨Nat.le_of_ble_eq_true rfl, Nat.le_of_ble_eq_true rfl⟩ hl.1 (Nat.le_of_ble_eq_true rfl) dX8_lacks_21 ⟨Nat.le_of_ble_eq_true rfl, Nat.le_of_ble_eq_true rfl⟩ rfl) (fun u1 r_ H locs hw hP hD hS hk => ?_)
  obtain ⟨rfl, eu1, bu1⟩ := hw
  replace hP : va_P D vwCl [(o, eMM r (.ref ma) fr (upd I 0 0) L), (ma, eMI mr MI), ((mr 11), aI k 6 mpr), ((mr 12), aI k 5 mbr), ((mr 13), aI k 5 mnx), ((mr 14), aI k 4 mhd), ((mr 15), aI k 20 mtn), ((r 16), aI k 37 sv), ((r 17), aI k 37 tw), ((r 32), aI k 37 tr)] H := hP.sub [0, 1, 2, 3, 4, 5, 6, 7, 8, 9] rfl
  replace hD : va_D A [(o, eMM r (.ref ma) fr (upd I 0 0) L), (ma, eMI mr MI), ((mr 11), aI k 6 mpr), ((mr 12), aI k 5 mbr), ((mr 13), aI k 5 mnx), ((mr 14), aI k 4 mhd), ((mr 15), aI k 20 mtn), ((r 16), aI k 37 sv), ((r 17), aI k 37 tw), ((r 32), aI k 37 tr)] := hD.sub [0, 1, 2, 3, 4, 5, 6, 7, 8, 9] (by decide) rfl
  refine lv_if_ne (tgt := 33) hx hb dX8_lacks_24 (by decide) (fun c2 => ?_) (fun c2 => ?_)
  · obtain ⟨hn_x, hb_1, hb_5⟩ := m_in15 (fun h => c2 (eu1.trans h))
    refine lv_aload_n hx hb dX8_lacks_33 rfl (lv_at hl 0 rfl) ?_
    refine lv_iload_n hx hb dX8_lacks_34 rfl (lv_at hl 1 rfl) ?_
    refine xc_v (wc := [(o, eMM r (.ref ma) fr (upd I 0 0) L), (ma, eMI mr MI), ((mr 11), aI k 6 mpr), ((mr 12), aI k 5 mbr), ((mr 13), aI k 5 mnx), ((mr 14), aI k 4 mhd), ((mr 15), aI k 20 mtn), ((r 16), aI k 37 sv), ((r 17), aI k 37 tw), ((r 32), aI k 37 tr)]) (wr := []) hP hD hS hA [0, 1, 2, 3, 4, 5, 6, 7, 8, 9] [] rfl rfl rfl (by decide) (xrV ⟨hx, hb, hml, hown, hts⟩ hg (m_X8_rules l D k _ o r fr (upd I 0 0) L ma mr MI mpr mbr mnx mhd mtn sv tw tr ore now nP nS x x.toNatClampNeg hmS hS2 hS5 hpr hP1 hP6 hroom hlife hhd hs36 hore hs27 hnb hn_x hb_5) hP hD [0, 1, 2, 3, 4, 5, 6, 7, 8, 9] rfl rfl trivial (ci := 10) (q0 := 0) rfl rfl rfl q1640 q1642 qs79 q93 q1643 xo_X8_rules ⟨rfl, rfl⟩ ⟨Nat.le_of_ble_eq_true rfl, Nat.le_of_ble_eq_true rfl⟩ hl.1 (Nat.le_of_ble_eq_true rfl) dX8_lacks_35 ⟨Nat.le_of_ble_eq_true rfl, Nat.le_of_ble_eq_true rfl⟩ rfl) (fun u3 H locs hw hP hD hS hk => ?_)
    have eu3 := hw
    replace hP : va_P D vwCl [(o, eMM r (.ref ma) fr (upd I 0 0) L), (ma, eMI mr MI), ((mr 11), aI k 6 mpr), ((mr 12), aI k 5 mbr), ((mr 13), aI k 5 mnx), ((mr 14), aI k 4 mhd), ((mr 15), aI k 20 mtn), ((r 16), aI k 37 sv), ((r 17), aI k 37 u3.1), ((r 32), aI k 37 u3.2)] H := hP.sub [0, 1, 2, 3, 4, 5, 6, 7, 8, 9] rfl
    replace hD : va_D A [(o, eMM r (.ref ma) fr (upd I 0 0) L), (ma, eMI mr MI), ((mr 11), aI k 6 mpr), ((mr 12), aI k 5 mbr), ((mr 13), aI k 5 mnx), ((mr 14), aI k 4 mhd), ((mr 15), aI k 20 mtn), ((r 16), aI k 37 sv), ((r 17), aI k 37 u3.1), ((r 32), aI k 37 u3.2)] := hD.sub [0, 1, 2, 3, 4, 5, 6, 7, 8, 9] (by decide) rfl
    refine lv_aload_n hx hb dX8_lacks_38 rfl (lv_at hl 0 rfl) ?_
    refine lv_aload_n hx hb dX8_lacks_39 rfl (lv_at hl 0 rfl) ?_
    refine va_get (D := D) (ci := 10) (v := .ref (r 17)) (C := RX8) (T := TX8) (N := 37) hx hb hts in_X8 hown hg.1 hP 0 rfl rfl 17 (Nat.le_of_ble_eq_true rfl) (hts _ q1158) (fun _ h9 => h9) rfl dX8_lacks_40 ?_
    refine lv_bipush (v := 23) hx hb dX8_lacks_43 cb_23 ?_
    refine xa_iald hx hb hg hP 8 rfl xl_23 (by first | omega | exact Nat.lt_of_lt_of_le (Nat.mod_lt _ (by omega)) (by omega)) (by omega) dX8_lacks_45 ?_
    refine lv_aload_n hx hb dX8_lacks_46 rfl (lv_at hl 0 rfl) ?_
    refine va_get (D := D) (ci := 10) (v := .ref (r 16)) (C := RX8) (T := TX8) (N := 37) hx hb hts in_X8 hown hg.1 hP 0 rfl rfl 16 (Nat.le_of_ble_eq_true rfl) (hts _ q1157) (fun _ h9 => h9) rfl dX8_lacks_47 ?_
    refine lv_bipush (v := 23) hx hb dX8_lacks_50 cb_23 ?_
    refine xa_iald hx hb hg hP 7 rfl xl_23 (by first | omega | exact Nat.lt_of_lt_of_le (Nat.mod_lt _ (by omega)) (by omega)) (by omega) dX8_lacks_52 ?_
    refine lv_isub hx hb dX8_lacks_53 ?_
    refine xc_i (wc := [(o, eMM r (.ref ma) fr (upd I 0 0) L)]) (wr := [(ma, eMI mr MI), ((mr 11), aI k 6 mpr), ((mr 12), aI k 5 mbr), ((mr 13), aI k 5 mnx), ((mr 14), aI k 4 mhd), ((mr 15), aI k 20 mtn), ((r 16), aI k 37 sv), ((r 17), aI k 37 u3.1), ((r 32), aI k 37 u3.2)]) hP hD hS hA [0] [1, 2, 3, 4, 5, 6, 7, 8, 9] rfl rfl rfl (by decide) (xrV ⟨hx, hb, hml, hown, hts⟩ hg (m_X8_done l D k _ o r (.ref ma) fr (upd I 0 0) L ((u3.1 23) - (sv 23))) hP hD [0] rfl rfl trivial (ci := 10) (q0 := 0) rfl rfl rfl q1482 q1484 qs60 q93 q1485 xo_X8_done ⟨rfl, rfl⟩ ⟨Nat.le_of_ble_eq_true rfl, Nat.le_of_ble_eq_true rfl⟩ hl.1 (Nat.le_of_ble_eq_true rfl) dX8_lacks_54 ⟨Nat.le_of_ble_eq_true rfl, Nat.le_of_ble_eq_true rfl⟩ rfl) (fun r_ u4 H locs hw hP hD hS hk => ?_)
    obtain ⟨rfl, eu4⟩ := hw
    replace hP : va_P D vwCl [(o, eMM r (.ref ma) fr (upd (upd (upd I 0 0) 1 u4.2.1) 2 u4.2.2) L), (ma, eMI mr MI), ((mr 11), aI k 6 mpr), ((mr 12), aI k 5 mbr), ((mr 13), aI k 5 mnx), ((mr 14), aI k 4 mhd), ((mr 15), aI k 20 mtn), ((r 16), aI k 37 sv), ((r 17), aI k 37 u3.1), ((r 32), aI k 37 u3.2)] H := hP.sub [9, 0, 1, 2, 3, 4, 5, 6, 7, 8] rfl
    replace hD : va_D A [(o, eMM r (.ref ma) fr (upd (upd (upd I 0 0) 1 u4.2.1) 2 u4.2.2) L), (ma, eMI mr MI), ((mr 11), aI k 6 mpr), ((mr 12), aI k 5 mbr), ((mr 13), aI k 5 mnx), ((mr 14), aI k 4 mhd), ((mr 15), aI k 20 mtn), ((r 16), aI k 37 sv), ((r 17), aI k 37 u3.1), ((r 32), aI k 37 u3.2)] := hD.sub [9, 0, 1, 2, 3, 4, 5, 6, 7, 8] (by decide) rfl
    exact xret_i hx hb hr hlocks (Nat.le_of_ble_eq_true rfl) (Nat.le_of_ble_eq_true rfl) hS.2.2 dX8_lacks_57 (fun t ht => ⟨⟨u4.1, (u4.1, 0, u4.2.1, u4.2.2, u3.1, u3.2), rfl, ⟨rfl, (by subst eu4; subst eu3; subst eu1; exact Eq.symm (Eq.trans (if_neg c2) (rfl)))⟩, by rw [ht]; exact hP, hD⟩, hS.F ht⟩)
  · refine lv_aload_n hx hb dX8_lacks_27 rfl (lv_at hl 0 rfl) ?_
    refine lv_iconst (v := 2) hx hb dX8_lacks_28 ci_2 ?_
    refine xc_i (wc := [(o, eMM r (.ref ma) fr (upd I 0 0) L)]) (wr := [(ma, eMI mr MI), ((mr 11), aI k 6 mpr), ((mr 12), aI k 5 mbr), ((mr 13), aI k 5 mnx), ((mr 14), aI k 4 mhd), ((mr 15), aI k 20 mtn), ((r 16), aI k 37 sv), ((r 17), aI k 37 tw), ((r 32), aI k 37 tr)]) hP hD hS hA [0] [1, 2, 3, 4, 5, 6, 7, 8, 9] rfl rfl rfl (by decide) (xrV ⟨hx, hb, hml, hown, hts⟩ hg (m_X8_refused l D k _ o r (.ref ma) fr (upd I 0 0) L 2) hP hD [0] rfl rfl trivial (ci := 10) (q0 := 0) rfl rfl rfl q1265 q1267 qs39 q93 q1268 xo_X8_refused ⟨rfl, rfl⟩ ⟨Nat.le_of_ble_eq_true rfl, Nat.le_of_ble_eq_true rfl⟩ hl.1 (Nat.le_of_ble_eq_true rfl) dX8_lacks_29 ⟨Nat.le_of_ble_eq_true rfl, Nat.le_of_ble_eq_true rfl⟩ rfl) (fun r_ u5 H locs hw hP hD hS hk => ?_)
    obtain ⟨rfl, eu5⟩ := hw
    replace hP : va_P D vwCl [(o, eMM r (.ref ma) fr (upd (upd (upd I 0 0) 1 u5.2.1) 2 u5.2.2) L), (ma, eMI mr MI), ((mr 11), aI k 6 mpr), ((mr 12), aI k 5 mbr), ((mr 13), aI k 5 mnx), ((mr 14), aI k 4 mhd), ((mr 15), aI k 20 mtn), ((r 16), aI k 37 sv), ((r 17), aI k 37 tw), ((r 32), aI k 37 tr)] H := hP.sub [9, 0, 1, 2, 3, 4, 5, 6, 7, 8] rfl
    replace hD : va_D A [(o, eMM r (.ref ma) fr (upd (upd (upd I 0 0) 1 u5.2.1) 2 u5.2.2) L), (ma, eMI mr MI), ((mr 11), aI k 6 mpr), ((mr 12), aI k 5 mbr), ((mr 13), aI k 5 mnx), ((mr 14), aI k 4 mhd), ((mr 15), aI k 20 mtn), ((r 16), aI k 37 sv), ((r 17), aI k 37 tw), ((r 32), aI k 37 tr)] := hD.sub [9, 0, 1, 2, 3, 4, 5, 6, 7, 8] (by decide) rfl
    exact xret_i hx hb hr hlocks (Nat.le_of_ble_eq_true rfl) (Nat.le_of_ble_eq_true rfl) hS.2.2 dX8_lacks_32 (fun t ht => ⟨⟨u5.1, (u5.1, 0, u5.2.1, u5.2.2, tw, tr), rfl, ⟨rfl, (by subst eu5; subst eu1; exact Eq.symm (Eq.trans (if_pos c2) (rfl)))⟩, by rw [ht]; exact hP, hD⟩, hS.F ht⟩)

def f_X8_lacksN  : Int32 × Int32 × Int32 × Int32 :=
  let u1 := f_X8_refused 1
  (u1.1, 0, u1.2.1, u1.2.2)
abbrev q_X8_lacksN (D : va_G) (k : KK) (o : Nat) (r : Nat → Nat) (fr : Value) (I : Nat → Int32) (L : Nat → Int64) (x : Int32) (A : Nat → Prop) : Array Value → State → Outcome → State → Prop := va_Qi (fun (r_ : Int32) (u : Int32 × Int32 × Int32 × Int32) => r_ = u.1 ∧ u = f_X8_lacksN) (bx D (fun u => [(o, eMM r .null fr (upd (upd (upd I 0 u.2.1) 1 u.2.2.1) 2 u.2.2.2) L)]) A) A
abbrev rm_X8_lacksN : Room := { frames := 5, cells := 0, slots := 0, locals := 200 }
set_option maxHeartbeats 8000000 in
theorem m_X8_lacksN (l : Launch) (D : va_G) (k : KK) (sz : Nat) (o : Nat) (r : Nat → Nat) (fr : Value) (I : Nat → Int32) (L : Nat → Int64) (x : Int32)  : Met l yX8_lacks (ws_ yX8_lacks cX8_lacks 2 (some .int)) rm_X8_lacksN (pcx D k [.ref o, .int x] sz [(o, eMM r .null fr I L)] (fun _ => True)) (q_X8_lacksN D k o r fr I L x (va_A [(o, eMM r .null fr I L)] sz)) 0 0 (va_A [(o, eMM r .null fr I L)] sz) := by
  refine Met.start (Qc := q_X8_lacksN D k o r fr I L x) (by decide) (Nat.le_of_ble_eq_true rfl) ?_
  intro p e s m below meth c A hx hb hr hlocks hml hown hin hts hg hP hD hA hAn hS hY hsz ls hl
  have hown : s.vm.findClass RX8 = some m.cls := hown
  have hl : lv_has ls 2 [(0, .ref o), (1, .int x)] := hl
  refine lv_aload_n hx hb dX8_lacks_0 rfl (lv_at hl 0 rfl) ?_
  refine lv_iconst (v := 0) hx hb dX8_lacks_1 ci_0 ?_
  refine va_put (D := D) (ci := 10) (v := .int 0) (C := RX8) (T := TX8) (N := 37) hx hb hts in_X8 tyX8 tyX8_ok nmX8 hown hg.1 hP hD hS 0 rfl rfl 0 (Nat.le_of_ble_eq_true rfl) (hts _ q1141) (fun _ h9 => h9) rfl ftX8_0 rfl rfl (Nat.le_of_ble_eq_true rfl) dX8_lacks_2 (fun H locs hP hD hS => ?_)
  replace hP : va_P D vwCl [(o, eMM r .null fr (upd I 0 0) L)] H := hP
  replace hD : va_D A [(o, eMM r .null fr (upd I 0 0) L)] := hD
  refine lv_aload_n hx hb dX8_lacks_5 rfl (lv_at hl 0 rfl) ?_
  refine va_get (D := D) (ci := 10) (v := .null) (C := RX8) (T := TX8) (N := 37) hx hb hts in_X8 hown hg.1 hP 0 rfl rfl 3 (Nat.le_of_ble_eq_true rfl) (hts _ q1144) (fun _ h9 => h9) rfl dX8_lacks_6 ?_
  refine lv_ifnonnullN hx hb dX8_lacks_9 ?_
  refine lv_aload_n hx hb dX8_lacks_12 rfl (lv_at hl 0 rfl) ?_
  refine lv_iconst (v := 1) hx hb dX8_lacks_13 ci_1 ?_
  refine xc_i (wc := [(o, eMM r .null fr (upd I 0 0) L)]) (wr := []) hP hD hS hA [0] [] rfl rfl rfl (by decide) (xrV ⟨hx, hb, hml, hown, hts⟩ hg (m_X8_refused l D k _ o r .null fr (upd I 0 0) L 1) hP hD [0] rfl rfl trivial (ci := 10) (q0 := 0) rfl rfl rfl q1265 q1267 qs39 q93 q1268 xo_X8_refused ⟨rfl, rfl⟩ ⟨Nat.le_of_ble_eq_true rfl, Nat.le_of_ble_eq_true rfl⟩ hl.1 (Nat.le_of_ble_eq_true rfl) dX8_lacks_14 ⟨Nat.le_of_ble_eq_true rfl, Nat.le_of_ble_eq_true rfl⟩ rfl) (fun r_ u1 H locs hw hP hD hS hk => ?_)
  obtain ⟨rfl, eu1⟩ := hw
  replace hP : va_P D vwCl [(o, eMM r .null fr (upd (upd (upd I 0 0) 1 u1.2.1) 2 u1.2.2) L)] H := hP.sub [0] rfl
  replace hD : va_D A [(o, eMM r .null fr (upd (upd (upd I 0 0) 1 u1.2.1) 2 u1.2.2) L)] := hD.sub [0] (by decide) rfl
  exact xret_i hx hb hr hlocks (Nat.le_of_ble_eq_true rfl) (Nat.le_of_ble_eq_true rfl) hS.2.2 dX8_lacks_17 (fun t ht => ⟨⟨u1.1, (u1.1, 0, u1.2.1, u1.2.2), rfl, ⟨rfl, (by subst eu1; exact rfl)⟩, by rw [ht]; exact hP, hD⟩, hS.F ht⟩)

def f_X8_leads_l184 (MI : Nat → Int32) (tw : Nat → Int32) (i53 : Nat) (X53 : (Int64) × (Nat → Int64) × (Nat → Int64)) : (Int64) × (Nat → Int64) × (Nat → Int64) :=
  let x78 := (((X53.2.1 i53) * ((20 + (10 * (tw 35))).toInt64)) / 100)
  let u79 := f_X8_passes MI (nI i53) (tw 25)
  let x80 := ((x78 * (u79.toInt64)) / 100)
  let x81 := ((X53.2.1 i53) - x78)
  let f82 := vp_updL X53.2.1 i53 x81
  let x83 := (x78 - x80)
  let f84 := vp_updL X53.2.2 i53 x83
  let x85 := (X53.1 + x80)
  (x85, f82, f84)
def f_X8_leads_j4 (MI : Nat → Int32) (n13 : Nat) : (Int32) :=
  if (MI 8) ≤ ((nI n13) + 2) then
    ((nI n13) + 1)
  else
    ((nI n13) + 2)
def f_X8_leads_l64 (MI : Nat → Int32) (mbr : Nat → Int32) (mnx : Nat → Int32) (tw : Nat → Int32) (nS : Nat) (n13 : Nat) (X13 : (Nat → Int64)) : (Nat → Int64) :=
  let x86 := ((((X13 n13) * ((mbr n13).toInt64)) * ((tw 29).toInt64)) / 10000)
  let x87 := ((x86 * ((mnx n13).toInt64)) / 100)
  let x88 := ((X13 n13) - x86)
  let f89 := vp_updL X13 n13 x88
  let x90 := ((f89 (n13 + 1)) + x87)
  let f91 := vp_updL f89 (n13 + 1) x90
  let v94 := f_X8_leads_j4 MI n13
  let j95 := if n13 + 2 < nS then n13 + 2 else n13 + 1
  let x96 := ((f91 j95) + (x86 - x87))
  let f97 := vp_updL f91 j95 x96
  f97
def f_X8_leads_l2  (i1 : Nat) (X1 : (Nat → Int64) × (Nat → Int64)) : (Nat → Int64) × (Nat → Int64) :=
  let x99 := ((X1.1 i1) + (X1.2 i1))
  let f100 := vp_updL X1.1 i1 x99
  let f101 := vp_updL X1.2 i1 0
  (f100, f101)
def f_X8_leads (MI : Nat → Int32) (mbr : Nat → Int32) (mnx : Nat → Int32) (tw : Nat → Int32) (mk : Nat → Int64) (mb : Nat → Int64) (nS : Nat) : Int64 × (Nat → Int64) × (Nat → Int64) :=
  let X1 := itN (f_X8_leads_l2) nS (mk, mb)
  if (tw 26) = 1 then
    (0, X1.1, X1.2)
  else
    let x12 := ((MI 8) - 2)
    let X13 := itD (f_X8_leads_l64 MI mbr mnx tw nS) (nS - 1) X1.1
    let X53 := itN (f_X8_leads_l184 MI tw) nS (0, X13, X1.2)
    (X53.1, X53.2.1, X53.2.2)
abbrev q_X8_leads (D : va_G) (k : KK) (o : Nat) (r : Nat → Nat) (fr : Value) (I : Nat → Int32) (L : Nat → Int64) (ma : Nat) (mr : Nat → Nat) (MI : Nat → Int32) (mbr : Nat → Int32) (mnx : Nat → Int32) (tw : Nat → Int32) (mk : Nat → Int64) (mb : Nat → Int64) (nS : Nat) (A : Nat → Prop) : Array Value → State → Outcome → State → Prop := va_Ql (fun (r_ : Int64) (u : Int64 × (Nat → Int64) × (Nat → Int64)) => r_ = u.1 ∧ u = f_X8_leads MI mbr mnx tw mk mb nS) (bx D (fun u => [(o, eMM r (.ref ma) fr I L), (ma, eMI mr MI), ((mr 12), aI k 5 mbr), ((mr 13), aI k 5 mnx), ((r 17), aI k 37 tw), ((r 35), aL k 5 u.2.1), ((r 36), aL k 5 u.2.2)]) A) A
abbrev rm_X8_leads : Room := { frames := 2, cells := 0, slots := 0, locals := 80 }
theorem xo_X8_leads : xok yX8_leads 0 := by unfold xok; decide +kernel
set_option maxHeartbeats 8000000 in
theorem m_X8_leads (l : Launch) (D : va_G) (k : KK) (sz : Nat) (o : Nat) (r : Nat → Nat) (fr : Value) (I : Nat → Int32) (L : Nat → Int64) (ma : Nat) (mr : Nat → Nat) (MI : Nat → Int32) (mbr : Nat → Int32) (mnx : Nat → Int32) (tw : Nat → Int32) (mk : Nat → Int64) (mb : Nat → Int64) (nS : Nat) (hmS : MI 8 = nI nS) (hS2 : 2 ≤ nS) (hS5 : nS ≤ 5) : Met l yX8_leads (ws_ yX8_leads cX8_leads 8 (some .long)) rm_X8_leads (pcx D k [.ref o] sz [(o, eMM r (.ref ma) fr I L), (ma, eMI mr MI), ((mr 12), aI k 5 mbr), ((mr 13), aI k 5 mnx), ((r 17), aI k 37 tw), ((r 35), aL k 5 mk), ((r 36), aL k 5 mb)] (fun _ => True)) (q_X8_leads D k o r fr I L ma mr MI mbr mnx tw mk mb nS (va_A [(o, eMM r (.ref ma) fr I L), (ma, eMI mr MI), ((mr 12), aI k 5 mbr), ((mr 13), aI k 5 mnx), ((r 17), aI k 37 tw), ((r 35), aL k 5 mk), ((r 36), aL k 5 mb)] sz)) 0 0 (va_A [(o, eMM r (.ref ma) fr I L), (ma, eMI mr MI), ((mr 12), aI k 5 mbr), ((mr 13), aI k 5 mnx), ((r 17), aI k 37 tw), ((r 35), aL k 5 mk), ((r 36), aL k 5 mb)] sz) := by
  refine Met.start (Qc := q_X8_leads D k o r fr I L ma mr MI mbr mnx tw mk mb nS) (by decide) (Nat.le_of_ble_eq_true rfl) ?_
  intro p e s m below meth c A hx hb hr hlocks hml hown hin hts hg hP hD hA hAn hS hY hsz ls hl
  have hown : s.vm.findClass RX8 = some m.cls := hown
  have hl : lv_has ls 8 [(0, .ref o)] := hl
  refine lv_iconst (v := 0) hx hb dX8_leads_0 ci_0 ?_
  refine lv_istore_n (lv' := [(1, .int 0), (0, .ref o)]) hx hb dX8_leads_1 rfl hl (Nat.le_of_ble_eq_true rfl) rfl (fun ls hl => ?_)
  have loop1 : ∀ (n1 i1 : Nat) (X1 : (Nat → Int64) × (Nat → Int64)) (H : Heap) (locs : List Loc) (ls : Array Slot), i1 + n1 = nS → X1 = itN (f_X8_leads_l2) i1 (mk, mb) → va_P D vwCl [(o, eMM r (.ref ma) fr I L), (ma, eMI mr MI), ((mr 12), aI k 5 mbr), ((mr 13), aI k 5 mnx), ((r 17), aI k 37 tw), ((r 35), aL k 5 X1.1), ((r 36), aL k 5 X1.2)] H → va_D A [(o, eMM r (.ref ma) fr I L), (ma, eMI mr MI), ((mr 12), aI k 5 mbr), ((mr 13), aI k 5 mnx), ((r 17), aI k 37 tw), ((r 35), aL k 5 X1.1), ((r 36), aL k 5 X1.2)] → va_S A s.heap H locs → lv_has ls 8 [(1, .int (nI i1)), (0, .ref o)] → W p l e rm_X8_leads s m ([.ref o] : List Value).toArray below meth c H locs 0 0 (MQ below (q_X8_leads D k o r fr I L ma mr MI mbr mnx tw mk mb nS A) ([.ref o] : List Value).toArray s 0 0 A) (F0 m 2 ls []) := by
    intro n1
    induction n1 with
    | zero =>
      intro i1 X1 H locs ls hn1 eX1 hP hD hS hl
      have hi1 : i1 = nS := by omega
      rw [hi1] at eX1
      refine lv_iload_n hx hb dX8_leads_2 rfl (lv_at hl 0 rfl) ?_
      refine lv_aload_n hx hb dX8_leads_3 rfl (lv_at hl 1 rfl) ?_
      refine va_get (D := D) (ci := 10) (v := .ref ma) (C := RX8) (T := TX8) (N := 37) hx hb hts in_X8 hown hg.1 hP 0 rfl rfl 3 (Nat.le_of_ble_eq_true rfl) (hts _ q1144) (fun _ h9 => h9) rfl dX8_leads_4 ?_
      refine va_getN (D := D) (ci := 11) (v := .int (MI 8)) (C := RX13) (T := TX13) (N := 18) hx hb hts in_X13 hown hg.1 hP 1 rfl rfl 8 (Nat.le_of_ble_eq_true rfl) (nwF_191 hg) (fun _ h9 => h9) rfl dX8_leads_7 ?_
      refine lv_icmp_ge (tgt := 41) hx hb dX8_leads_10 (by decide) (fun _ => ?_) (fun c => absurd (xle_t hmS rfl (by omega) (by omega)) c)
      refine lv_aload_n hx hb dX8_leads_41 rfl (lv_at hl 1 rfl) ?_
      refine va_get (D := D) (ci := 10) (v := .ref (r 17)) (C := RX8) (T := TX8) (N := 37) hx hb hts in_X8 hown hg.1 hP 0 rfl rfl 17 (Nat.le_of_ble_eq_true rfl) (hts _ q1158) (fun _ h9 => h9) rfl dX8_leads_42 ?_
      refine lv_bipush (v := 26) hx hb dX8_leads_45 cb_26 ?_
      refine xa_iald hx hb hg hP 4 rfl xl_26 (by first | omega | exact Nat.lt_of_lt_of_le (Nat.mod_lt _ (by omega)) (by omega)) (by omega) dX8_leads_47 ?_
      refine lv_iconst (v := 1) hx hb dX8_leads_48 ci_1 ?_
      refine lv_icmp_ne (tgt := 54) hx hb dX8_leads_49 (by decide) (fun c11 => ?_) (fun c11 => ?_)
      · refine lv_aload_n hx hb dX8_leads_54 rfl (lv_at hl 1 rfl) ?_
        refine va_get (D := D) (ci := 10) (v := .ref ma) (C := RX8) (T := TX8) (N := 37) hx hb hts in_X8 hown hg.1 hP 0 rfl rfl 3 (Nat.le_of_ble_eq_true rfl) (hts _ q1144) (fun _ h9 => h9) rfl dX8_leads_55 ?_
        refine va_getN (D := D) (ci := 11) (v := .int (MI 8)) (C := RX13) (T := TX13) (N := 18) hx hb hts in_X13 hown hg.1 hP 1 rfl rfl 8 (Nat.le_of_ble_eq_true rfl) (nwF_191 hg) (fun _ h9 => h9) rfl dX8_leads_58 ?_
        refine lv_iconst (v := 2) hx hb dX8_leads_61 ci_2 ?_
        refine lv_isub hx hb dX8_leads_62 ?_
        refine lv_topi (fun x12 ex12 => ?_)
        refine lv_istore_n (lv' := [(1, .int x12), (0, .ref o)]) hx hb dX8_leads_63 rfl hl (Nat.le_of_ble_eq_true rfl) rfl (fun ls hl => ?_)
        have loop13 : ∀ (n13 i13 : Nat) (X13 : (Nat → Int64)) (H : Heap) (locs : List Loc) (ls : Array Slot), i13 + n13 = nS - 1 → itD (f_X8_leads_l64 MI mbr mnx tw nS) n13 X13 = itD (f_X8_leads_l64 MI mbr mnx tw nS) (nS - 1) X1.1 → va_P D vwCl [(o, eMM r (.ref ma) fr I L), (ma, eMI mr MI), ((mr 12), aI k 5 mbr), ((mr 13), aI k 5 mnx), ((r 17), aI k 37 tw), ((r 35), aL k 5 X13), ((r 36), aL k 5 X1.2)] H → va_D A [(o, eMM r (.ref ma) fr I L), (ma, eMI mr MI), ((mr 12), aI k 5 mbr), ((mr 13), aI k 5 mnx), ((r 17), aI k 37 tw), ((r 35), aL k 5 X13), ((r 36), aL k 5 X1.2)] → va_S A s.heap H locs → lv_has ls 8 [(1, .int (nI n13 - 1)), (0, .ref o)] → W p l e rm_X8_leads s m ([.ref o] : List Value).toArray below meth c H locs 0 0 (MQ below (q_X8_leads D k o r fr I L ma mr MI mbr mnx tw mk mb nS A) ([.ref o] : List Value).toArray s 0 0 A) (F0 m 64 ls []) := by
          intro n13
          induction n13 with
          | zero =>
            intro i13 X13 H locs ls hn13 eX13 hP hD hS hl
            have hi13 : i13 = nS - 1 := by omega
            replace eX13 : X13 = itD (f_X8_leads_l64 MI mbr mnx tw nS) (nS - 1) X1.1 := eX13
            refine lv_iload_n hx hb dX8_leads_64 rfl (lv_at hl 0 rfl) ?_
            refine lv_if_lt (tgt := 180) hx hb dX8_leads_65 (by decide) (fun _ => ?_) (fun c => absurd (by decide) c)
            refine lv_lconst (v := 0) hx hb dX8_leads_180 cl_0 ?_
            refine lv_lstore_n (lv' := [(1, .long 0), (0, .ref o)]) hx hb dX8_leads_181 rfl hl (Nat.le_of_ble_eq_true rfl) rfl (fun ls hl => ?_)
            refine lv_iconst (v := 0) hx hb dX8_leads_182 ci_0 ?_
            refine lv_istore_n (lv' := [(3, .int 0), (1, .long 0), (0, .ref o)]) hx hb dX8_leads_183 rfl hl (Nat.le_of_ble_eq_true rfl) rfl (fun ls hl => ?_)
            have loop53 : ∀ (n53 i53 : Nat) (X53 : (Int64) × (Nat → Int64) × (Nat → Int64)) (H : Heap) (locs : List Loc) (ls : Array Slot), i53 + n53 = nS → X53 = itN (f_X8_leads_l184 MI tw) i53 (0, X13, X1.2) → va_P D vwCl [(o, eMM r (.ref ma) fr I L), (ma, eMI mr MI), ((mr 12), aI k 5 mbr), ((mr 13), aI k 5 mnx), ((r 17), aI k 37 tw), ((r 35), aL k 5 X53.2.1), ((r 36), aL k 5 X53.2.2)] H → va_D A [(o, eMM r (.ref ma) fr I L), (ma, eMI mr MI), ((mr 12), aI k 5 mbr), ((mr 13), aI k 5 mnx), ((r 17), aI k 37 tw), ((r 35), aL k 5 X53.2.1), ((r 36), aL k 5 X53.2.2)] → va_S A s.heap H locs → lv_has ls 8 [(3, .int (nI i53)), (1, .long X53.1), (0, .ref o)] → W p l e rm_X8_leads s m ([.ref o] : List Value).toArray below meth c H locs 0 0 (MQ below (q_X8_leads D k o r fr I L ma mr MI mbr mnx tw mk mb nS A) ([.ref o] : List Value).toArray s 0 0 A) (F0 m 184 ls []) := by
              intro n53
              induction n53 with
              | zero =>
                intro i53 X53 H locs ls hn53 eX53 hP hD hS hl
                have hi53 : i53 = nS := by omega
                rw [hi53] at eX53
                refine lv_iload_n hx hb dX8_leads_184 rfl (lv_at hl 0 rfl) ?_
                refine lv_aload_n hx hb dX8_leads_185 rfl (lv_at hl 2 rfl) ?_
                refine va_get (D := D) (ci := 10) (v := .ref ma) (C := RX8) (T := TX8) (N := 37) hx hb hts in_X8 hown hg.1 hP 0 rfl rfl 3 (Nat.le_of_ble_eq_true rfl) (hts _ q1144) (fun _ h9 => h9) rfl dX8_leads_186 ?_
                refine va_getN (D := D) (ci := 11) (v := .int (MI 8)) (C := RX13) (T := TX13) (N := 18) hx hb hts in_X13 hown hg.1 hP 1 rfl rfl 8 (Nat.le_of_ble_eq_true rfl) (nwF_191 hg) (fun _ h9 => h9) rfl dX8_leads_189 ?_
                refine lv_icmp_ge (tgt := 277) hx hb dX8_leads_192 (by decide) (fun _ => ?_) (fun c => absurd (xle_t hmS rfl (by omega) (by omega)) c)
                refine lv_lload_n hx hb dX8_leads_277 rfl (lv_at hl 1 rfl) ?_
                exact xret_l hx hb hr hlocks (Nat.le_of_ble_eq_true rfl) (Nat.le_of_ble_eq_true rfl) hS.2.2 dX8_leads_278 (fun t ht => ⟨⟨X53.1, (X53.1, X53.2.1, X53.2.2), rfl, ⟨rfl, (by subst eX53; subst eX13; subst ex12; subst eX1; exact Eq.symm (Eq.trans (if_neg c11) (rfl)))⟩, by rw [ht]; exact hP, hD⟩, hS.F ht⟩)
              | succ n53 ih53 =>
                intro i53 X53 H locs ls hn53 eX53 hP hD hS hl
                have hi53 : i53 < nS := by omega
                refine lv_iload_n hx hb dX8_leads_184 rfl (lv_at hl 0 rfl) ?_
                refine lv_aload_n hx hb dX8_leads_185 rfl (lv_at hl 2 rfl) ?_
                refine va_get (D := D) (ci := 10) (v := .ref ma) (C := RX8) (T := TX8) (N := 37) hx hb hts in_X8 hown hg.1 hP 0 rfl rfl 3 (Nat.le_of_ble_eq_true rfl) (hts _ q1144) (fun _ h9 => h9) rfl dX8_leads_186 ?_
                refine va_getN (D := D) (ci := 11) (v := .int (MI 8)) (C := RX13) (T := TX13) (N := 18) hx hb hts in_X13 hown hg.1 hP 1 rfl rfl 8 (Nat.le_of_ble_eq_true rfl) (nwF_191 hg) (fun _ h9 => h9) rfl dX8_leads_189 ?_
                refine lv_icmp_ge (tgt := 277) hx hb dX8_leads_192 (by decide) (fun c => absurd c (xle_f hmS rfl (by omega) (by omega))) (fun _ => ?_)
                refine lv_aload_n hx hb dX8_leads_195 rfl (lv_at hl 2 rfl) ?_
                refine va_get (D := D) (ci := 10) (v := .ref (r 35)) (C := RX8) (T := TX8) (N := 37) hx hb hts in_X8 hown hg.1 hP 0 rfl rfl 35 (Nat.le_of_ble_eq_true rfl) (hts _ q1176) (fun _ h9 => h9) rfl dX8_leads_196 ?_
                refine lv_iload_n hx hb dX8_leads_199 rfl (lv_at hl 0 rfl) ?_
                refine xa_lald hx hb hg hP 5 rfl rfl (by first | omega | exact Nat.lt_of_lt_of_le (Nat.mod_lt _ (by omega)) (by omega)) (by omega) dX8_leads_200 ?_
                refine lv_bipush (v := 20) hx hb dX8_leads_201 cb_20 ?_
                refine lv_bipush (v := 10) hx hb dX8_leads_203 cb_10 ?_
                refine lv_aload_n hx hb dX8_leads_205 rfl (lv_at hl 2 rfl) ?_
                refine va_get (D := D) (ci := 10) (v := .ref (r 17)) (C := RX8) (T := TX8) (N := 37) hx hb hts in_X8 hown hg.1 hP 0 rfl rfl 17 (Nat.le_of_ble_eq_true rfl) (hts _ q1158) (fun _ h9 => h9) rfl dX8_leads_206 ?_
                refine lv_bipush (v := 35) hx hb dX8_leads_209 cb_35 ?_
                refine xa_iald hx hb hg hP 4 rfl xl_35 (by first | omega | exact Nat.lt_of_lt_of_le (Nat.mod_lt _ (by omega)) (by omega)) (by omega) dX8_leads_211 ?_
                refine lv_imul hx hb dX8_leads_212 ?_
                refine lv_iadd hx hb dX8_leads_213 ?_
                refine lv_i2l hx hb dX8_leads_214 rfl ?_
                refine lv_lmul hx hb dX8_leads_215 ?_
                refine lv_ldc2 hx hb hown (hts _ q1681) dX8_leads_216 ?_
                refine lv_ldiv hx hb dX8_leads_219 (by decide) ?_
                refine lv_topl (fun x78 ex78 => ?_)
                refine lv_lstore (lv' := [(4, .long x78), (3, .int (nI i53)), (1, .long X53.1), (0, .ref o)]) hx hb dX8_leads_220 hl (Nat.le_of_ble_eq_true rfl) rfl (fun ls hl => ?_)
                refine lv_lload hx hb dX8_leads_222 (lv_at hl 0 rfl) ?_
                refine lv_aload_n hx hb dX8_leads_224 rfl (lv_at hl 3 rfl) ?_
                refine lv_iload_n hx hb dX8_leads_225 rfl (lv_at hl 1 rfl) ?_
                refine lv_aload_n hx hb dX8_leads_226 rfl (lv_at hl 3 rfl) ?_
                refine va_get (D := D) (ci := 10) (v := .ref (r 17)) (C := RX8) (T := TX8) (N := 37) hx hb hts in_X8 hown hg.1 hP 0 rfl rfl 17 (Nat.le_of_ble_eq_true rfl) (hts _ q1158) (fun _ h9 => h9) rfl dX8_leads_227 ?_
                refine lv_bipush (v := 25) hx hb dX8_leads_230 cb_25 ?_
                refine xa_iald hx hb hg hP 4 rfl xl_25 (by first | omega | exact Nat.lt_of_lt_of_le (Nat.mod_lt _ (by omega)) (by omega)) (by omega) dX8_leads_232 ?_
                refine xc_i (wc := [(o, eMM r (.ref ma) fr I L), (ma, eMI mr MI)]) (wr := [((mr 12), aI k 5 mbr), ((mr 13), aI k 5 mnx), ((r 17), aI k 37 tw), ((r 35), aL k 5 X53.2.1), ((r 36), aL k 5 X53.2.2)]) hP hD hS hA [0, 1] [2, 3, 4, 5, 6] rfl rfl rfl (by decide) (xrV ⟨hx, hb, hml, hown, hts⟩ hg (m_X8_passes l D k _ o r fr I L ma mr MI (nI i53) (tw 25)) hP hD [0, 1] rfl rfl trivial (ci := 10) (q0 := 0) rfl rfl rfl q1534 q1536 qs68 q93 q1537 xo_X8_passes ⟨rfl, rfl⟩ ⟨Nat.le_of_ble_eq_true rfl, Nat.le_of_ble_eq_true rfl⟩ hl.1 (Nat.le_of_ble_eq_true rfl) dX8_leads_233 ⟨Nat.le_of_ble_eq_true rfl, Nat.le_of_ble_eq_true rfl⟩ rfl) (fun u79 r_ H locs hw hP hD hS hk => ?_)
                obtain ⟨rfl, eu79⟩ := hw
                replace hP : va_P D vwCl [(o, eMM r (.ref ma) fr I L), (ma, eMI mr MI), ((mr 12), aI k 5 mbr), ((mr 13), aI k 5 mnx), ((r 17), aI k 37 tw), ((r 35), aL k 5 X53.2.1), ((r 36), aL k 5 X53.2.2)] H := hP.sub [5, 6, 0, 1, 2, 3, 4] rfl
                replace hD : va_D A [(o, eMM r (.ref ma) fr I L), (ma, eMI mr MI), ((mr 12), aI k 5 mbr), ((mr 13), aI k 5 mnx), ((r 17), aI k 37 tw), ((r 35), aL k 5 X53.2.1), ((r 36), aL k 5 X53.2.2)] := hD.sub [5, 6, 0, 1, 2, 3, 4] (by decide) rfl
                refine lv_i2l hx hb dX8_leads_236 rfl ?_
                refine lv_lmul hx hb dX8_leads_237 ?_
                refine lv_ldc2 hx hb hown (hts _ q1681) dX8_leads_238 ?_
                refine lv_ldiv hx hb dX8_leads_241 (by decide) ?_
                refine lv_topl (fun x80 ex80 => ?_)
                refine lv_lstore (lv' := [(6, .long x80), (4, .long x78), (3, .int (nI i53)), (1, .long X53.1), (0, .ref o)]) hx hb dX8_leads_242 hl (Nat.le_of_ble_eq_true rfl) rfl (fun ls hl => ?_)
                refine lv_aload_n hx hb dX8_leads_244 rfl (lv_at hl 4 rfl) ?_
                refine va_get (D := D) (ci := 10) (v := .ref (r 35)) (C := RX8) (T := TX8) (N := 37) hx hb hts in_X8 hown hg.1 hP 0 rfl rfl 35 (Nat.le_of_ble_eq_true rfl) (hts _ q1176) (fun _ h9 => h9) rfl dX8_leads_245 ?_
                refine lv_iload_n hx hb dX8_leads_248 rfl (lv_at hl 2 rfl) ?_
                refine lv_dup2_11 hx hb dX8_leads_249 rfl rfl ?_
                refine xa_lald hx hb hg hP 5 rfl rfl (by first | omega | exact Nat.lt_of_lt_of_le (Nat.mod_lt _ (by omega)) (by omega)) (by omega) dX8_leads_250 ?_
                refine lv_lload hx hb dX8_leads_251 (lv_at hl 1 rfl) ?_
                refine lv_lsub hx hb dX8_leads_253 ?_
                refine lv_topl (fun x81 ex81 => ?_)
                refine xa_last hx hb hg hP hD hS 5 rfl rfl (by omega) (by omega) dX8_leads_254 (fun f82 H locs ef82 hP hD hS => ?_)
                replace hP : va_P D vwCl [(o, eMM r (.ref ma) fr I L), (ma, eMI mr MI), ((mr 12), aI k 5 mbr), ((mr 13), aI k 5 mnx), ((r 17), aI k 37 tw), ((r 35), aL k 5 f82), ((r 36), aL k 5 X53.2.2)] H := hP
                replace hD : va_D A [(o, eMM r (.ref ma) fr I L), (ma, eMI mr MI), ((mr 12), aI k 5 mbr), ((mr 13), aI k 5 mnx), ((r 17), aI k 37 tw), ((r 35), aL k 5 f82), ((r 36), aL k 5 X53.2.2)] := hD
                refine lv_aload_n hx hb dX8_leads_255 rfl (lv_at hl 4 rfl) ?_
                refine va_get (D := D) (ci := 10) (v := .ref (r 36)) (C := RX8) (T := TX8) (N := 37) hx hb hts in_X8 hown hg.1 hP 0 rfl rfl 36 (Nat.le_of_ble_eq_true rfl) (hts _ q1177) (fun _ h9 => h9) rfl dX8_leads_256 ?_
                refine lv_iload_n hx hb dX8_leads_259 rfl (lv_at hl 2 rfl) ?_
                refine lv_lload hx hb dX8_leads_260 (lv_at hl 1 rfl) ?_
                refine lv_lload hx hb dX8_leads_262 (lv_at hl 0 rfl) ?_
                refine lv_lsub hx hb dX8_leads_264 ?_
                refine lv_topl (fun x83 ex83 => ?_)
                refine xa_last hx hb hg hP hD hS 6 rfl rfl (by omega) (by omega) dX8_leads_265 (fun f84 H locs ef84 hP hD hS => ?_)
                replace hP : va_P D vwCl [(o, eMM r (.ref ma) fr I L), (ma, eMI mr MI), ((mr 12), aI k 5 mbr), ((mr 13), aI k 5 mnx), ((r 17), aI k 37 tw), ((r 35), aL k 5 f82), ((r 36), aL k 5 f84)] H := hP
                replace hD : va_D A [(o, eMM r (.ref ma) fr I L), (ma, eMI mr MI), ((mr 12), aI k 5 mbr), ((mr 13), aI k 5 mnx), ((r 17), aI k 37 tw), ((r 35), aL k 5 f82), ((r 36), aL k 5 f84)] := hD
                refine lv_lload_n hx hb dX8_leads_266 rfl (lv_at hl 3 rfl) ?_
                refine lv_lload hx hb dX8_leads_267 (lv_at hl 0 rfl) ?_
                refine lv_ladd hx hb dX8_leads_269 ?_
                refine lv_topl (fun x85 ex85 => ?_)
                refine lv_lstore_n (lv' := [(1, .long x85), (6, .long x80), (4, .long x78), (3, .int (nI i53)), (0, .ref o)]) hx hb dX8_leads_270 rfl hl (Nat.le_of_ble_eq_true rfl) rfl (fun ls hl => ?_)
                refine lv_iinc (v := (nI (i53 + 1))) (lv' := [(3, .int (nI (i53 + 1))), (1, .long x85), (6, .long x80), (4, .long x78), (0, .ref o)]) hx hb dX8_leads_271 hl (k := 3) rfl (xinc1 _) (Nat.le_of_ble_eq_true rfl) rfl (fun ls hl => ?_)
                refine lv_goto (tgt := 184) hx hb dX8_leads_274 (by decide) ?_
                exact ih53 (i53 + 1) (x85, f82, f84) _ _ _ (by omega) (Eq.trans (by subst ex85; subst ef84; subst ex83; subst ef82; subst ex81; subst ex80; subst eu79; subst ex78; exact rfl) (congrArg (f_X8_leads_l184 MI tw i53) eX53)) hP hD hS (lv_sub hl [0, 1, 4] rfl)
            exact loop53 nS 0 (0, X13, X1.2) _ _ _ (by omega) rfl hP hD hS (by have h := (lv_sub hl [0, 1, 2] rfl); exact h)
          | succ n13 ih13 =>
            intro i13 X13 H locs ls hn13 eX13 hP hD hS hl
            have hi13 : n13 < nS - 1 := by omega
            rw [nI_pred] at hl
            refine lv_iload_n hx hb dX8_leads_64 rfl (lv_at hl 0 rfl) ?_
            refine lv_if_lt (tgt := 180) hx hb dX8_leads_65 (by decide) (fun c => absurd c (nI_pos (by omega))) (fun _ => ?_)
            refine lv_aload_n hx hb dX8_leads_68 rfl (lv_at hl 1 rfl) ?_
            refine va_get (D := D) (ci := 10) (v := .ref (r 35)) (C := RX8) (T := TX8) (N := 37) hx hb hts in_X8 hown hg.1 hP 0 rfl rfl 35 (Nat.le_of_ble_eq_true rfl) (hts _ q1176) (fun _ h9 => h9) rfl dX8_leads_69 ?_
            refine lv_iload_n hx hb dX8_leads_72 rfl (lv_at hl 0 rfl) ?_
            refine xa_lald hx hb hg hP 5 rfl rfl (by first | omega | exact Nat.lt_of_lt_of_le (Nat.mod_lt _ (by omega)) (by omega)) (by omega) dX8_leads_73 ?_
            refine lv_aload_n hx hb dX8_leads_74 rfl (lv_at hl 1 rfl) ?_
            refine va_get (D := D) (ci := 10) (v := .ref ma) (C := RX8) (T := TX8) (N := 37) hx hb hts in_X8 hown hg.1 hP 0 rfl rfl 3 (Nat.le_of_ble_eq_true rfl) (hts _ q1144) (fun _ h9 => h9) rfl dX8_leads_75 ?_
            refine va_getN (D := D) (ci := 11) (v := .ref (mr 12)) (C := RX13) (T := TX13) (N := 18) hx hb hts in_X13 hown hg.1 hP 1 rfl rfl 12 (Nat.le_of_ble_eq_true rfl) (nwF_267 hg) (fun _ h9 => h9) rfl dX8_leads_78 ?_
            refine lv_iload_n hx hb dX8_leads_81 rfl (lv_at hl 0 rfl) ?_
            refine xa_iald hx hb hg hP 2 rfl rfl (by first | omega | exact Nat.lt_of_lt_of_le (Nat.mod_lt _ (by omega)) (by omega)) (by omega) dX8_leads_82 ?_
            refine lv_i2l hx hb dX8_leads_83 rfl ?_
            refine lv_lmul hx hb dX8_leads_84 ?_
            refine lv_aload_n hx hb dX8_leads_85 rfl (lv_at hl 1 rfl) ?_
            refine va_get (D := D) (ci := 10) (v := .ref (r 17)) (C := RX8) (T := TX8) (N := 37) hx hb hts in_X8 hown hg.1 hP 0 rfl rfl 17 (Nat.le_of_ble_eq_true rfl) (hts _ q1158) (fun _ h9 => h9) rfl dX8_leads_86 ?_
            refine lv_bipush (v := 29) hx hb dX8_leads_89 cb_29 ?_
            refine xa_iald hx hb hg hP 4 rfl xl_29 (by first | omega | exact Nat.lt_of_lt_of_le (Nat.mod_lt _ (by omega)) (by omega)) (by omega) dX8_leads_91 ?_
            refine lv_i2l hx hb dX8_leads_92 rfl ?_
            refine lv_lmul hx hb dX8_leads_93 ?_
            refine lv_ldc2 hx hb hown (hts _ q1680) dX8_leads_94 ?_
            refine lv_ldiv hx hb dX8_leads_97 (by decide) ?_
            refine lv_topl (fun x86 ex86 => ?_)
            refine lv_lstore_n (lv' := [(2, .long x86), (1, .int (nI n13)), (0, .ref o)]) hx hb dX8_leads_98 rfl hl (Nat.le_of_ble_eq_true rfl) rfl (fun ls hl => ?_)
            refine lv_lload_n hx hb dX8_leads_99 rfl (lv_at hl 0 rfl) ?_
            refine lv_aload_n hx hb dX8_leads_100 rfl (lv_at hl 2 rfl) ?_
            refine va_get (D := D) (ci := 10) (v := .ref ma) (C := RX8) (T := TX8) (N := 37) hx hb hts in_X8 hown hg.1 hP 0 rfl rfl 3 (Nat.le_of_ble_eq_true rfl) (hts _ q1144) (fun _ h9 => h9) rfl dX8_leads_101 ?_
            refine va_getN (D := D) (ci := 11) (v := .ref (mr 13)) (C := RX13) (T := TX13) (N := 18) hx hb hts in_X13 hown hg.1 hP 1 rfl rfl 13 (Nat.le_of_ble_eq_true rfl) (nwF_270 hg) (fun _ h9 => h9) rfl dX8_leads_104 ?_
            refine lv_iload_n hx hb dX8_leads_107 rfl (lv_at hl 1 rfl) ?_
            refine xa_iald hx hb hg hP 3 rfl rfl (by first | omega | exact Nat.lt_of_lt_of_le (Nat.mod_lt _ (by omega)) (by omega)) (by omega) dX8_leads_108 ?_
            refine lv_i2l hx hb dX8_leads_109 rfl ?_
            refine lv_lmul hx hb dX8_leads_110 ?_
            refine lv_ldc2 hx hb hown (hts _ q1681) dX8_leads_111 ?_
            refine lv_ldiv hx hb dX8_leads_114 (by decide) ?_
            refine lv_topl (fun x87 ex87 => ?_)
            refine lv_lstore (lv' := [(4, .long x87), (2, .long x86), (1, .int (nI n13)), (0, .ref o)]) hx hb dX8_leads_115 hl (Nat.le_of_ble_eq_true rfl) rfl (fun ls hl => ?_)
            refine lv_aload_n hx hb dX8_leads_117 rfl (lv_at hl 3 rfl) ?_
            refine va_get (D := D) (ci := 10) (v := .ref (r 35)) (C := RX8) (T := TX8) (N := 37) hx hb hts in_X8 hown hg.1 hP 0 rfl rfl 35 (Nat.le_of_ble_eq_true rfl) (hts _ q1176) (fun _ h9 => h9) rfl dX8_leads_118 ?_
            refine lv_iload_n hx hb dX8_leads_121 rfl (lv_at hl 2 rfl) ?_
            refine lv_dup2_11 hx hb dX8_leads_122 rfl rfl ?_
            refine xa_lald hx hb hg hP 5 rfl rfl (by first | omega | exact Nat.lt_of_lt_of_le (Nat.mod_lt _ (by omega)) (by omega)) (by omega) dX8_leads_123 ?_
            refine lv_lload_n hx hb dX8_leads_124 rfl (lv_at hl 1 rfl) ?_
            refine lv_lsub hx hb dX8_leads_125 ?_
            refine lv_topl (fun x88 ex88 => ?_)
            refine xa_last hx hb hg hP hD hS 5 rfl rfl (by omega) (by omega) dX8_leads_126 (fun f89 H locs ef89 hP hD hS => ?_)
            replace hP : va_P D vwCl [(o, eMM r (.ref ma) fr I L), (ma, eMI mr MI), ((mr 12), aI k 5 mbr), ((mr 13), aI k 5 mnx), ((r 17), aI k 37 tw), ((r 35), aL k 5 f89), ((r 36), aL k 5 X1.2)] H := hP
            replace hD : va_D A [(o, eMM r (.ref ma) fr I L), (ma, eMI mr MI), ((mr 12), aI k 5 mbr), ((mr 13), aI k 5 mnx), ((r 17), aI k 37 tw), ((r 35), aL k 5 f89), ((r 36), aL k 5 X1.2)] := hD
            refine lv_aload_n hx hb dX8_leads_127 rfl (lv_at hl 3 rfl) ?_
            refine va_get (D := D) (ci := 10) (v := .ref (r 35)) (C := RX8) (T := TX8) (N := 37) hx hb hts in_X8 hown hg.1 hP 0 rfl rfl 35 (Nat.le_of_ble_eq_true rfl) (hts _ q1176) (fun _ h9 => h9) rfl dX8_leads_128 ?_
            refine lv_iload_n hx hb dX8_leads_131 rfl (lv_at hl 2 rfl) ?_
            refine lv_iconst (v := 1) hx hb dX8_leads_132 ci_1 ?_
            refine lv_iadd hx hb dX8_leads_133 ?_
            refine lv_dup2_11 hx hb dX8_leads_134 rfl rfl ?_
            refine xa_lald hx hb hg hP 5 rfl (xnadd rfl xl_1) (by first | omega | exact Nat.lt_of_lt_of_le (Nat.mod_lt _ (by omega)) (by omega)) (by omega) dX8_leads_135 ?_
            refine lv_lload hx hb dX8_leads_136 (lv_at hl 0 rfl) ?_
            refine lv_ladd hx hb dX8_leads_138 ?_
            refine lv_topl (fun x90 ex90 => ?_)
            refine xa_last hx hb hg hP hD hS 5 rfl (xnadd rfl xl_1) (by omega) (by omega) dX8_leads_139 (fun f91 H locs ef91 hP hD hS => ?_)
            replace hP : va_P D vwCl [(o, eMM r (.ref ma) fr I L), (ma, eMI mr MI), ((mr 12), aI k 5 mbr), ((mr 13), aI k 5 mnx), ((r 17), aI k 37 tw), ((r 35), aL k 5 f91), ((r 36), aL k 5 X1.2)] H := hP
            replace hD : va_D A [(o, eMM r (.ref ma) fr I L), (ma, eMI mr MI), ((mr 12), aI k 5 mbr), ((mr 13), aI k 5 mnx), ((r 17), aI k 37 tw), ((r 35), aL k 5 f91), ((r 36), aL k 5 X1.2)] := hD
            refine lv_aload_n hx hb dX8_leads_140 rfl (lv_at hl 3 rfl) ?_
            refine va_get (D := D) (ci := 10) (v := .ref (r 35)) (C := RX8) (T := TX8) (N := 37) hx hb hts in_X8 hown hg.1 hP 0 rfl rfl 35 (Nat.le_of_ble_eq_true rfl) (hts _ q1176) (fun _ h9 => h9) rfl dX8_leads_141 ?_
            refine lv_iload_n hx hb dX8_leads_144 rfl (lv_at hl 2 rfl) ?_
            refine lv_iconst (v := 2) hx hb dX8_leads_145 ci_2 ?_
            refine lv_iadd hx hb dX8_leads_146 ?_
            refine lv_aload_n hx hb dX8_leads_147 rfl (lv_at hl 3 rfl) ?_
            refine va_get (D := D) (ci := 10) (v := .ref ma) (C := RX8) (T := TX8) (N := 37) hx hb hts in_X8 hown hg.1 hP 0 rfl rfl 3 (Nat.le_of_ble_eq_true rfl) (hts _ q1144) (fun _ h9 => h9) rfl dX8_leads_148 ?_
            refine va_getN (D := D) (ci := 11) (v := .int (MI 8)) (C := RX13) (T := TX13) (N := 18) hx hb hts in_X13 hown hg.1 hP 1 rfl rfl 8 (Nat.le_of_ble_eq_true rfl) (nwF_191 hg) (fun _ h9 => h9) rfl dX8_leads_151 ?_
            have Jn4 : ∀ (v94 : (Int32)) (H : Heap) (locs : List Loc) (ls : Array Slot), v94 = f_X8_leads_j4 MI n13 → va_P D vwCl [(o, eMM r (.ref ma) fr I L), (ma, eMI mr MI), ((mr 12), aI k 5 mbr), ((mr 13), aI k 5 mnx), ((r 17), aI k 37 tw), ((r 35), aL k 5 f91), ((r 36), aL k 5 X1.2)] H → va_D A [(o, eMM r (.ref ma) fr I L), (ma, eMI mr MI), ((mr 12), aI k 5 mbr), ((mr 13), aI k 5 mnx), ((r 17), aI k 37 tw), ((r 35), aL k 5 f91), ((r 36), aL k 5 X1.2)] → va_S A s.heap H locs → lv_has ls 8 [(4, .long x87), (2, .long x86), (1, .int (nI n13)), (0, .ref o)] → W p l e rm_X8_leads s m ([.ref o] : List Value).toArray below meth c H locs 0 0 (MQ below (q_X8_leads D k o r fr I L ma mr MI mbr mnx tw mk mb nS A) ([.ref o] : List Value).toArray s 0 0 A) (F0 m 166 ls [.int v94, .ref (r 35)]) := by
              intro v94 H locs ls ev94 hP hD hS hl
              obtain ⟨j95, ej95⟩ : ∃ z : Nat, z = if n13 + 2 < nS then n13 + 2 else n13 + 1 := ⟨_, rfl⟩
              have hj95 : j95 < 5 := by rw [ej95]; split <;> omega
              have hv94 : v94 = nI j95 := by rw [ev94, ej95]; exact (xix hmS hS5).resolve_right (by omega)
              refine lv_dup2_11 hx hb dX8_leads_166 rfl rfl ?_
              refine xa_lald hx hb hg hP 5 rfl hv94 (by first | omega | exact Nat.lt_of_lt_of_le (Nat.mod_lt _ (by omega)) (by omega)) (by omega) dX8_leads_167 ?_
              refine lv_lload_n hx hb dX8_leads_168 rfl (lv_at hl 1 rfl) ?_
              refine lv_lload hx hb dX8_leads_169 (lv_at hl 0 rfl) ?_
              refine lv_lsub hx hb dX8_leads_171 ?_
              refine lv_ladd hx hb dX8_leads_172 ?_
              refine lv_topl (fun x96 ex96 => ?_)
              refine xa_last hx hb hg hP hD hS 5 rfl hv94 (by omega) (by omega) dX8_leads_173 (fun f97 H locs ef97 hP hD hS => ?_)
              replace hP : va_P D vwCl [(o, eMM r (.ref ma) fr I L), (ma, eMI mr MI), ((mr 12), aI k 5 mbr), ((mr 13), aI k 5 mnx), ((r 17), aI k 37 tw), ((r 35), aL k 5 f97), ((r 36), aL k 5 X1.2)] H := hP
              replace hD : va_D A [(o, eMM r (.ref ma) fr I L), (ma, eMI mr MI), ((mr 12), aI k 5 mbr), ((mr 13), aI k 5 mnx), ((r 17), aI k 37 tw), ((r 35), aL k 5 f97), ((r 36), aL k 5 X1.2)] := hD
              refine lv_iinc (v := (nI n13 - 1)) (lv' := [(1, .int (nI n13 - 1)), (4, .long x87), (2, .long x86), (0, .ref o)]) hx hb dX8_leads_174 hl (k := 2) rfl (xdec1 _) (Nat.le_of_ble_eq_true rfl) rfl (fun ls hl => ?_)
              refine lv_goto (tgt := 64) hx hb dX8_leads_177 (by decide) ?_
              exact ih13 (i13 + 1) f97 _ _ _ (by omega) (Eq.trans (congrArg (itD (f_X8_leads_l64 MI mbr mnx tw nS) n13) (by subst ef97; subst ex96; subst ej95; subst ev94; subst ef91; subst ex90; subst ef89; subst ex88; subst ex87; subst ex86; exact rfl)) eX13) hP hD hS (lv_sub hl [0, 3] rfl)
            refine lv_icmp_ge (tgt := 163) hx hb dX8_leads_154 (by decide) (fun c98 => ?_) (fun c98 => ?_)
            · refine lv_iload_n hx hb dX8_leads_163 rfl (lv_at hl 2 rfl) ?_
              refine lv_iconst (v := 1) hx hb dX8_leads_164 ci_1 ?_
              refine lv_iadd hx hb dX8_leads_165 ?_
              exact Jn4 ((nI n13) + 1) _ _ _ (by exact Eq.symm (Eq.trans (if_pos c98) (rfl))) hP hD hS (lv_sub hl [0, 1, 2, 3] rfl)
            · refine lv_iload_n hx hb dX8_leads_157 rfl (lv_at hl 2 rfl) ?_
              refine lv_iconst (v := 2) hx hb dX8_leads_158 ci_2 ?_
              refine lv_iadd hx hb dX8_leads_159 ?_
              refine lv_goto (tgt := 166) hx hb dX8_leads_160 (by decide) ?_
              exact Jn4 ((nI n13) + 2) _ _ _ (by exact Eq.symm (Eq.trans (if_neg c98) (rfl))) hP hD hS (lv_sub hl [0, 1, 2, 3] rfl)
        exact loop13 (nS - 1) 0 X1.1 _ _ _ (by omega) rfl hP hD hS (by rw [show nI (nS - 1) - 1 = x12 from (by rw [ex12]; exact xdn2 hmS hS2)]; exact (lv_sub hl [0, 1] rfl))
      · refine lv_lconst (v := 0) hx hb dX8_leads_52 cl_0 ?_
        exact xret_l hx hb hr hlocks (Nat.le_of_ble_eq_true rfl) (Nat.le_of_ble_eq_true rfl) hS.2.2 dX8_leads_53 (fun t ht => ⟨⟨0, (0, X1.1, X1.2), rfl, ⟨rfl, (by subst eX1; exact Eq.symm (Eq.trans (if_pos c11) (rfl)))⟩, by rw [ht]; exact hP, hD⟩, hS.F ht⟩)
    | succ n1 ih1 =>
      intro i1 X1 H locs ls hn1 eX1 hP hD hS hl
      have hi1 : i1 < nS := by omega
      refine lv_iload_n hx hb dX8_leads_2 rfl (lv_at hl 0 rfl) ?_
      refine lv_aload_n hx hb dX8_leads_3 rfl (lv_at hl 1 rfl) ?_
      refine va_get (D := D) (ci := 10) (v := .ref ma) (C := RX8) (T := TX8) (N := 37) hx hb hts in_X8 hown hg.1 hP 0 rfl rfl 3 (Nat.le_of_ble_eq_true rfl) (hts _ q1144) (fun _ h9 => h9) rfl dX8_leads_4 ?_
      refine va_getN (D := D) (ci := 11) (v := .int (MI 8)) (C := RX13) (T := TX13) (N := 18) hx hb hts in_X13 hown hg.1 hP 1 rfl rfl 8 (Nat.le_of_ble_eq_true rfl) (nwF_191 hg) (fun _ h9 => h9) rfl dX8_leads_7 ?_
      refine lv_icmp_ge (tgt := 41) hx hb dX8_leads_10 (by decide) (fun c => absurd c (xle_f hmS rfl (by omega) (by omega))) (fun _ => ?_)
      refine lv_aload_n hx hb dX8_leads_13 rfl (lv_at hl 1 rfl) ?_
      refine va_get (D := D) (ci := 10) (v := .ref (r 35)) (C := RX8) (T := TX8) (N := 37) hx hb hts in_X8 hown hg.1 hP 0 rfl rfl 35 (Nat.le_of_ble_eq_true rfl) (hts _ q1176) (fun _ h9 => h9) rfl dX8_leads_14 ?_
      refine lv_iload_n hx hb dX8_leads_17 rfl (lv_at hl 0 rfl) ?_
      refine lv_dup2_11 hx hb dX8_leads_18 rfl rfl ?_
      refine xa_lald hx hb hg hP 5 rfl rfl (by first | omega | exact Nat.lt_of_lt_of_le (Nat.mod_lt _ (by omega)) (by omega)) (by omega) dX8_leads_19 ?_
      refine lv_aload_n hx hb dX8_leads_20 rfl (lv_at hl 1 rfl) ?_
      refine va_get (D := D) (ci := 10) (v := .ref (r 36)) (C := RX8) (T := TX8) (N := 37) hx hb hts in_X8 hown hg.1 hP 0 rfl rfl 36 (Nat.le_of_ble_eq_true rfl) (hts _ q1177) (fun _ h9 => h9) rfl dX8_leads_21 ?_
      refine lv_iload_n hx hb dX8_leads_24 rfl (lv_at hl 0 rfl) ?_
      refine xa_lald hx hb hg hP 6 rfl rfl (by first | omega | exact Nat.lt_of_lt_of_le (Nat.mod_lt _ (by omega)) (by omega)) (by omega) dX8_leads_25 ?_
      refine lv_ladd hx hb dX8_leads_26 ?_
      refine lv_topl (fun x99 ex99 => ?_)
      refine xa_last hx hb hg hP hD hS 5 rfl rfl (by omega) (by omega) dX8_leads_27 (fun f100 H locs ef100 hP hD hS => ?_)
      replace hP : va_P D vwCl [(o, eMM r (.ref ma) fr I L), (ma, eMI mr MI), ((mr 12), aI k 5 mbr), ((mr 13), aI k 5 mnx), ((r 17), aI k 37 tw), ((r 35), aL k 5 f100), ((r 36), aL k 5 X1.2)] H := hP
      replace hD : va_D A [(o, eMM r (.ref ma) fr I L), (ma, eMI mr MI), ((mr 12), aI k 5 mbr), ((mr 13), aI k 5 mnx), ((r 17), aI k 37 tw), ((r 35), aL k 5 f100), ((r 36), aL k 5 X1.2)] := hD
      refine lv_aload_n hx hb dX8_leads_28 rfl (lv_at hl 1 rfl) ?_
      refine va_get (D := D) (ci := 10) (v := .ref (r 36)) (C := RX8) (T := TX8) (N := 37) hx hb hts in_X8 hown hg.1 hP 0 rfl rfl 36 (Nat.le_of_ble_eq_true rfl) (hts _ q1177) (fun _ h9 => h9) rfl dX8_leads_29 ?_
      refine lv_iload_n hx hb dX8_leads_32 rfl (lv_at hl 0 rfl) ?_
      refine lv_lconst (v := 0) hx hb dX8_leads_33 cl_0 ?_
      refine xa_last hx hb hg hP hD hS 6 rfl rfl (by omega) (by omega) dX8_leads_34 (fun f101 H locs ef101 hP hD hS => ?_)
      replace hP : va_P D vwCl [(o, eMM r (.ref ma) fr I L), (ma, eMI mr MI), ((mr 12), aI k 5 mbr), ((mr 13), aI k 5 mnx), ((r 17), aI k 37 tw), ((r 35), aL k 5 f100), ((r 36), aL k 5 f101)] H := hP
      replace hD : va_D A [(o, eMM r (.ref ma) fr I L), (ma, eMI mr MI), ((mr 12), aI k 5 mbr), ((mr 13), aI k 5 mnx), ((r 17), aI k 37 tw), ((r 35), aL k 5 f100), ((r 36), aL k 5 f101)] := hD
      refine lv_iinc (v := (nI (i1 + 1))) (lv' := [(1, .int (nI (i1 + 1))), (0, .ref o)]) hx hb dX8_leads_35 hl (k := 0) rfl (xinc1 _) (Nat.le_of_ble_eq_true rfl) rfl (fun ls hl => ?_)
      refine lv_goto (tgt := 2) hx hb dX8_leads_38 (by decide) ?_
      exact ih1 (i1 + 1) (f100, f101) _ _ _ (by omega) (Eq.trans (by subst ef101; subst ef100; subst ex99; exact rfl) (congrArg (f_X8_leads_l2 i1) eX1)) hP hD hS (lv_sub hl [0, 1] rfl)
  exact loop1 nS 0 (mk, mb) _ _ _ (by omega) rfl hP hD hS (by have h := (lv_sub hl [0, 1] rfl); exact h)
