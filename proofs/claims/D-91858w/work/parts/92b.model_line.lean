set_option maxRecDepth 100000
def f_X8_readMill_j1 (Y1 : (Int32) × (Nat → Int32) × (Nat → Int64) × (Nat → Int32) × (Nat → Int32) × (Nat → Int32) × (Nat → Int32) × (Nat → Int32) × (Nat → Int32) × (Nat → Int64) × (Nat → Int32)) : (Int32) :=
  if (Y1.2.2.2.1 0) = (-1) then
    1
  else
    if (Y1.2.2.2.1 2) = (-1) then
      1
    else
      if (Y1.2.2.2.1 4) = (-1) then
        1
      else
        if (Y1.2.2.2.1 5) = (-1) then
          1
        else
          if (Y1.2.2.2.1 7) = 0 then
            1
          else
            if (Y1.2.2.2.1 8) < 2 then
              1
            else
              if (Y1.2.2.2.1 9) = 0 then
                1
              else
                0
def f_X8_readMill_j2 (Y1 : (Int32) × (Nat → Int32) × (Nat → Int64) × (Nat → Int32) × (Nat → Int32) × (Nat → Int32) × (Nat → Int32) × (Nat → Int32) × (Nat → Int32) × (Nat → Int64) × (Nat → Int32)) : (Int32) :=
  if (Y1.2.2.2.1 0) = (-1) then
    1
  else
    if (Y1.2.2.2.1 2) = (-1) then
      1
    else
      if (Y1.2.2.2.1 4) = (-1) then
        1
      else
        if (Y1.2.2.2.1 5) = (-1) then
          1
        else
          if (Y1.2.2.2.1 7) = 0 then
            1
          else
            if (Y1.2.2.2.1 8) < 2 then
              1
            else
              if (Y1.2.2.2.1 9) = 0 then
                1
              else
                0
def f_X8_readMill_l2 (tp : Nat → Int32) (zj : Nat) : Nat → ((Int32) × (Nat → Int32) × (Nat → Int64) × (Nat → Int32) × (Nat → Int32) × (Nat → Int32) × (Nat → Int32) × (Nat → Int32) × (Nat → Int32) × (Nat → Int64) × (Nat → Int32)) → (Int32) × (Nat → Int32) × (Nat → Int64) × (Nat → Int32) × (Nat → Int32) × (Nat → Int32) × (Nat → Int32) × (Nat → Int32) × (Nat → Int32) × (Nat → Int64) × (Nat → Int32)
  | 0, X1 => X1
  | n1 + 1, X1 => if X1.1 = 0 then
      (X1.1, X1.2.1, X1.2.2.1, X1.2.2.2.1, X1.2.2.2.2.1, X1.2.2.2.2.2.1, X1.2.2.2.2.2.2.1, X1.2.2.2.2.2.2.2.1, X1.2.2.2.2.2.2.2.2.1, X1.2.2.2.2.2.2.2.2.2.1, X1.2.2.2.2.2.2.2.2.2.2)
    else
      let u72 := f_X8_readLine X1.2.1 X1.2.2.1 tp X1.2.2.2.1 zj X1.2.2.2.2.1 X1.2.2.2.2.2.1 X1.2.2.2.2.2.2.1 X1.2.2.2.2.2.2.2.1 X1.2.2.2.2.2.2.2.2.1 X1.2.2.2.2.2.2.2.2.2.1 X1.2.2.2.2.2.2.2.2.2.2 ((X1.2.2.2.1 8).toNatClampNeg) ((X1.2.2.2.1 9).toNatClampNeg) ((X1.2.2.2.1 10).toNatClampNeg)
      let u73 := f_X8_is u72.1 59
      if u73 = 0 then
        f_X8_readMill_l2 tp zj n1 (u73, u72.1, u72.2.1, u72.2.2.1, u72.2.2.2.1, u72.2.2.2.2.1, u72.2.2.2.2.2.1, u72.2.2.2.2.2.2.1, u72.2.2.2.2.2.2.2.1, u72.2.2.2.2.2.2.2.2.1, u72.2.2.2.2.2.2.2.2.2)
      else
        let u75 := f_X8_next u72.1 u72.2.1 tp zj
        f_X8_readMill_l2 tp zj n1 (u73, upd (upd (upd (upd (upd u72.1 8 u75.1) 9 u75.2.1) 10 u75.2.2.1) 11 u75.2.2.2.1) 12 u75.2.2.2.2.1, vp_updL u72.2.1 15 u75.2.2.2.2.2, u72.2.2.1, u72.2.2.2.1, u72.2.2.2.2.1, u72.2.2.2.2.2.1, u72.2.2.2.2.2.2.1, u72.2.2.2.2.2.2.2.1, u72.2.2.2.2.2.2.2.2.1, u72.2.2.2.2.2.2.2.2.2)
def f_X8_readMill (I : Nat → Int32) (L : Nat → Int64) (tp : Nat → Int32) (J : Nat → Int32) (zj : Nat) (gpr : Nat → Int32) (gbr : Nat → Int32) (gnx : Nat → Int32) (ghd : Nat → Int32) (gtn : Nat → Int32) (gnm : Nat → Int64) (gse : Nat → Int32) : (Nat → Int32) × (Nat → Int64) × (Nat → Int32) × (Nat → Int32) × (Nat → Int32) × (Nat → Int32) × (Nat → Int32) × (Nat → Int32) × (Nat → Int64) × (Nat → Int32) :=
  let Y1 := f_X8_readMill_l2 tp zj (zj + 3) (1, I, L, J, gpr, gbr, gnx, ghd, gtn, gnm, gse)
  if (Y1.2.1 9) = 1 then
    let v36 := f_X8_readMill_j1 Y1
    if v36 = 0 then
      (Y1.2.1, Y1.2.2.1, Y1.2.2.2.1, Y1.2.2.2.2.1, Y1.2.2.2.2.2.1, Y1.2.2.2.2.2.2.1, Y1.2.2.2.2.2.2.2.1, Y1.2.2.2.2.2.2.2.2.1, Y1.2.2.2.2.2.2.2.2.2.1, Y1.2.2.2.2.2.2.2.2.2.2)
    else
      let u38 := f_X8_wrong Y1.2.1 6
      (upd (upd (upd Y1.2.1 9 u38.1) 13 u38.2.1) 14 u38.2.2, Y1.2.2.1, Y1.2.2.2.1, Y1.2.2.2.2.1, Y1.2.2.2.2.2.1, Y1.2.2.2.2.2.2.1, Y1.2.2.2.2.2.2.2.1, Y1.2.2.2.2.2.2.2.2.1, Y1.2.2.2.2.2.2.2.2.2.1, Y1.2.2.2.2.2.2.2.2.2.2)
  else
    let u46 := f_X8_wrong Y1.2.1 1
    let v61 := f_X8_readMill_j2 Y1
    if v61 = 0 then
      (upd (upd (upd Y1.2.1 9 u46.1) 13 u46.2.1) 14 u46.2.2, Y1.2.2.1, Y1.2.2.2.1, Y1.2.2.2.2.1, Y1.2.2.2.2.2.1, Y1.2.2.2.2.2.2.1, Y1.2.2.2.2.2.2.2.1, Y1.2.2.2.2.2.2.2.2.1, Y1.2.2.2.2.2.2.2.2.2.1, Y1.2.2.2.2.2.2.2.2.2.2)
    else
      let u63 := f_X8_wrong (upd (upd (upd Y1.2.1 9 u46.1) 13 u46.2.1) 14 u46.2.2) 6
      (upd (upd (upd Y1.2.1 9 u63.1) 13 u63.2.1) 14 u63.2.2, Y1.2.2.1, Y1.2.2.2.1, Y1.2.2.2.2.1, Y1.2.2.2.2.2.1, Y1.2.2.2.2.2.2.1, Y1.2.2.2.2.2.2.2.1, Y1.2.2.2.2.2.2.2.2.1, Y1.2.2.2.2.2.2.2.2.2.1, Y1.2.2.2.2.2.2.2.2.2.2)
abbrev q_X8_readMill (D : va_G) (k : KK) (o : Nat) (r : Nat → Nat) (mv : Value) (I : Nat → Int32) (L : Nat → Int64) (tp : Nat → Int32) (fo : Nat) (qf : Nat → Nat) (J : Nat → Int32) (zj : Nat) (gpr : Nat → Int32) (gbr : Nat → Int32) (gnx : Nat → Int32) (ghd : Nat → Int32) (gtn : Nat → Int32) (gnm : Nat → Int64) (gse : Nat → Int32) (A : Nat → Prop) : Array Value → State → Outcome → State → Prop := va_Qv (fun (u : (Nat → Int32) × (Nat → Int64) × (Nat → Int32) × (Nat → Int32) × (Nat → Int32) × (Nat → Int32) × (Nat → Int32) × (Nat → Int32) × (Nat → Int64) × (Nat → Int32)) => u = f_X8_readMill I L tp J zj gpr gbr gnx ghd gtn gnm gse ∧ mInv u.2.2.1 (u.1 9)) (bx D (fun u => [(o, eMM r mv (.ref fo) u.1 u.2.1), ((r 5), aB k 700 tp), (fo, eMI qf u.2.2.1), ((qf 11), aI k 6 u.2.2.2.1), ((qf 12), aI k 5 u.2.2.2.2.1), ((qf 13), aI k 5 u.2.2.2.2.2.1), ((qf 14), aI k 4 u.2.2.2.2.2.2.1), ((qf 15), aI k 20 u.2.2.2.2.2.2.2.1), ((qf 16), aL k 9 u.2.2.2.2.2.2.2.2.1), ((qf 17), aI k 9 u.2.2.2.2.2.2.2.2.2)]) A) A
abbrev rm_X8_readMill : Room := { frames := 11, cells := 0, slots := 0, locals := 440 }
theorem xo_X8_readMill : xok yX8_readMill 0 := by unfold xok; decide +kernel
set_option maxHeartbeats 8000000 in
theorem m_X8_readMill (l : Launch) (D : va_G) (k : KK) (sz : Nat) (o : Nat) (r : Nat → Nat) (mv : Value) (I : Nat → Int32) (L : Nat → Int64) (tp : Nat → Int32) (fo : Nat) (qf : Nat → Nat) (J : Nat → Int32) (zj : Nat) (gpr : Nat → Int32) (gbr : Nat → Int32) (gnx : Nat → Int32) (ghd : Nat → Int32) (gtn : Nat → Int32) (gnm : Nat → Int64) (gse : Nat → Int32) (hz : cz k) (hzj : I 7 = nI zj) (hz7 : zj ≤ 700) (hat : atz zj (I 8)) (hmI : mInv J (I 9)) : Met l yX8_readMill (ws_ yX8_readMill cX8_readMill 3 none) rm_X8_readMill (pcx D k [.ref o] sz [(o, eMM r mv (.ref fo) I L), ((r 5), aB k 700 tp), (fo, eMI qf J), ((qf 11), aI k 6 gpr), ((qf 12), aI k 5 gbr), ((qf 13), aI k 5 gnx), ((qf 14), aI k 4 ghd), ((qf 15), aI k 20 gtn), ((qf 16), aL k 9 gnm), ((qf 17), aI k 9 gse)] (fun H => oldY k (va_A [(o, eMM r mv (.ref fo) I L), ((r 5), aB k 700 tp), (fo, eMI qf J), ((qf 11), aI k 6 gpr), ((qf 12), aI k 5 gbr), ((qf 13), aI k 5 gnx), ((qf 14), aI k 4 ghd), ((qf 15), aI k 20 gtn), ((qf 16), aL k 9 gnm), ((qf 17), aI k 9 gse)] sz) H)) (q_X8_readMill D k o r mv I L tp fo qf J zj gpr gbr gnx ghd gtn gnm gse (va_A [(o, eMM r mv (.ref fo) I L), ((r 5), aB k 700 tp), (fo, eMI qf J), ((qf 11), aI k 6 gpr), ((qf 12), aI k 5 gbr), ((qf 13), aI k 5 gnx), ((qf 14), aI k 4 ghd), ((qf 15), aI k 20 gtn), ((qf 16), aL k 9 gnm), ((qf 17), aI k 9 gse)] sz)) 0 0 (va_A [(o, eMM r mv (.ref fo) I L), ((r 5), aB k 700 tp), (fo, eMI qf J), ((qf 11), aI k 6 gpr), ((qf 12), aI k 5 gbr), ((qf 13), aI k 5 gnx), ((qf 14), aI k 4 ghd), ((qf 15), aI k 20 gtn), ((qf 16), aL k 9 gnm), ((qf 17), aI k 9 gse)] sz) := by
  refine Met.start (Qc := q_X8_readMill D k o r mv I L tp fo qf J zj gpr gbr gnx ghd gtn gnm gse) (by decide) (Nat.le_of_ble_eq_true rfl) ?_
  intro p e s m below meth c A hx hb hr hlocks hml hown hin hts hg hP hD hA hAn hS hY hsz ls hl
  have hown : s.vm.findClass RX8 = some m.cls := hown
  have hl : lv_has ls 3 [(0, .ref o)] := hl
  have hO := oldY.mono hY hAn
  refine lv_iconst (v := 1) hx hb dX8_readMill_0 ci_1 ?_
  refine lv_istore_n (lv' := [(1, .int 1), (0, .ref o)]) hx hb dX8_readMill_1 rfl hl (Nat.le_of_ble_eq_true rfl) rfl (fun ls hl => ?_)
  have Jx1 : ∀ (Y1 : (Int32) × (Nat → Int32) × (Nat → Int64) × (Nat → Int32) × (Nat → Int32) × (Nat → Int32) × (Nat → Int32) × (Nat → Int32) × (Nat → Int32) × (Nat → Int64) × (Nat → Int32)) (H : Heap) (locs : List Loc) (ls : Array Slot), Y1 = f_X8_readMill_l2 tp zj (zj + 3) (1, I, L, J, gpr, gbr, gnx, ghd, gtn, gnm, gse) → (Y1.1 = 0 ∨ Y1.1 = 1) → atz zj (Y1.2.1 8) ∧ mInv Y1.2.2.2.1 (Y1.2.1 9) → va_P D vwCl [(o, eMM r mv (.ref fo) Y1.2.1 Y1.2.2.1), ((r 5), aB k 700 tp), (fo, eMI qf Y1.2.2.2.1), ((qf 11), aI k 6 Y1.2.2.2.2.1), ((qf 12), aI k 5 Y1.2.2.2.2.2.1), ((qf 13), aI k 5 Y1.2.2.2.2.2.2.1), ((qf 14), aI k 4 Y1.2.2.2.2.2.2.2.1), ((qf 15), aI k 20 Y1.2.2.2.2.2.2.2.2.1), ((qf 16), aL k 9 Y1.2.2.2.2.2.2.2.2.2.1), ((qf 17), aI k 9 Y1.2.2.2.2.2.2.2.2.2.2)] H → va_D A [(o, eMM r mv (.ref fo) Y1.2.1 Y1.2.2.1), ((r 5), aB k 700 tp), (fo, eMI qf Y1.2.2.2.1), ((qf 11), aI k 6 Y1.2.2.2.2.1), ((qf 12), aI k 5 Y1.2.2.2.2.2.1), ((qf 13), aI k 5 Y1.2.2.2.2.2.2.1), ((qf 14), aI k 4 Y1.2.2.2.2.2.2.2.1), ((qf 15), aI k 20 Y1.2.2.2.2.2.2.2.2.1), ((qf 16), aL k 9 Y1.2.2.2.2.2.2.2.2.2.1), ((qf 17), aI k 9 Y1.2.2.2.2.2.2.2.2.2.2)] → va_S A s.heap H locs → lv_has ls 3 [(1, .int Y1.1), (0, .ref o)] → W p l e rm_X8_readMill s m ([.ref o] : List Value).toArray below meth c H locs 0 0 (MQ below (q_X8_readMill D k o r mv I L tp fo qf J zj gpr gbr gnx ghd gtn gnm gse A) ([.ref o] : List Value).toArray s 0 0 A) (F0 m 28 ls []) := by
    intro Y1 H locs ls eY1 bY1_0 hE1 hP hD hS hl
    refine lv_aload_n hx hb dX8_readMill_28 rfl (lv_at hl 1 rfl) ?_
    refine va_get (D := D) (ci := 10) (v := .int (Y1.2.1 9)) (C := RX8) (T := TX8) (N := 37) hx hb hts in_X8 hown hg.1 hP 0 rfl rfl 9 (Nat.le_of_ble_eq_true rfl) (hts _ q1150) (fun _ h9 => h9) rfl dX8_readMill_29 ?_
    refine lv_iconst (v := 1) hx hb dX8_readMill_32 ci_1 ?_
    refine lv_icmp_eq (tgt := 41) hx hb dX8_readMill_33 (by decide) (fun c21 => ?_) (fun c21 => ?_)
    · refine lv_aload_n hx hb dX8_readMill_41 rfl (lv_at hl 1 rfl) ?_
      refine va_get (D := D) (ci := 10) (v := .ref fo) (C := RX8) (T := TX8) (N := 37) hx hb hts in_X8 hown hg.1 hP 0 rfl rfl 4 (Nat.le_of_ble_eq_true rfl) (hts _ q1145) (fun _ h9 => h9) rfl dX8_readMill_42 ?_
      refine va_getN (D := D) (ci := 11) (v := .int (Y1.2.2.2.1 0)) (C := RX13) (T := TX13) (N := 18) hx hb hts in_X13 hown hg.1 hP 2 rfl rfl 0 (Nat.le_of_ble_eq_true rfl) (nwF_176 hg) (fun _ h9 => h9) rfl dX8_readMill_45 ?_
      refine lv_iconst (v := (-1)) hx hb dX8_readMill_48 ci_m1 ?_
      have Jn1 : ∀ (v36 : (Int32)) (H : Heap) (locs : List Loc) (ls : Array Slot), v36 = f_X8_readMill_j1 Y1 → (v36 = 0 ∨ v36 = 1) → va_P D vwCl [(o, eMM r mv (.ref fo) Y1.2.1 Y1.2.2.1), ((r 5), aB k 700 tp), (fo, eMI qf Y1.2.2.2.1), ((qf 11), aI k 6 Y1.2.2.2.2.1), ((qf 12), aI k 5 Y1.2.2.2.2.2.1), ((qf 13), aI k 5 Y1.2.2.2.2.2.2.1), ((qf 14), aI k 4 Y1.2.2.2.2.2.2.2.1), ((qf 15), aI k 20 Y1.2.2.2.2.2.2.2.2.1), ((qf 16), aL k 9 Y1.2.2.2.2.2.2.2.2.2.1), ((qf 17), aI k 9 Y1.2.2.2.2.2.2.2.2.2.2)] H → va_D A [(o, eMM r mv (.ref fo) Y1.2.1 Y1.2.2.1), ((r 5), aB k 700 tp), (fo, eMI qf Y1.2.2.2.1), ((qf 11), aI k 6 Y1.2.2.2.2.1), ((qf 12), aI k 5 Y1.2.2.2.2.2.1), ((qf 13), aI k 5 Y1.2.2.2.2.2.2.1), ((qf 14), aI k 4 Y1.2.2.2.2.2.2.2.1), ((qf 15), aI k 20 Y1.2.2.2.2.2.2.2.2.1), ((qf 16), aL k 9 Y1.2.2.2.2.2.2.2.2.2.1), ((qf 17), aI k 9 Y1.2.2.2.2.2.2.2.2.2.2)] → va_S A s.heap H locs → lv_has ls 3 [(1, .int Y1.1), (0, .ref o)] → W p l e rm_X8_readMill s m ([.ref o] : List Value).toArray below meth c H locs 0 0 (MQ below (q_X8_readMill D k o r mv I L tp fo qf J zj gpr gbr gnx ghd gtn gnm gse A) ([.ref o] : List Value).toArray s 0 0 A) (F0 m 121 ls [.int v36]) := by
        intro v36 H locs ls ev36 bv36_0 hP hD hS hl
        refine lv_istore_n (lv' := [(2, .int v36), (1, .int Y1.1), (0, .ref o)]) hx hb dX8_readMill_121 rfl hl (Nat.le_of_ble_eq_true rfl) rfl (fun ls hl => ?_)
        refine lv_iload_n hx hb dX8_readMill_122 rfl (lv_at hl 0 rfl) ?_
        refine lv_if_eq (tgt := 132) hx hb dX8_readMill_123 (by decide) (fun c37 => ?_) (fun c37 => ?_)
        · exact xret_v hx hb hr hlocks (Nat.le_of_ble_eq_true rfl) (Nat.le_of_ble_eq_true rfl) hS.2.2 dX8_readMill_132 (fun t ht => ⟨⟨(Y1.2.1, Y1.2.2.1, Y1.2.2.2.1, Y1.2.2.2.2.1, Y1.2.2.2.2.2.1, Y1.2.2.2.2.2.2.1, Y1.2.2.2.2.2.2.2.1, Y1.2.2.2.2.2.2.2.2.1, Y1.2.2.2.2.2.2.2.2.2.1, Y1.2.2.2.2.2.2.2.2.2.2), rfl, ⟨(by subst ev36; subst eY1; exact Eq.symm (Eq.trans (if_pos c21) (Eq.trans (if_pos c37) (rfl)))), hE1.2⟩, by rw [ht]; exact hP, hD⟩, hS.F ht⟩)
        · refine lv_aload_n hx hb dX8_readMill_126 rfl (lv_at hl 2 rfl) ?_
          refine lv_bipush (v := 6) hx hb dX8_readMill_127 cb_6 ?_
          refine xc_v (wc := [(o, eMM r mv (.ref fo) Y1.2.1 Y1.2.2.1)]) (wr := [((r 5), aB k 700 tp), (fo, eMI qf Y1.2.2.2.1), ((qf 11), aI k 6 Y1.2.2.2.2.1), ((qf 12), aI k 5 Y1.2.2.2.2.2.1), ((qf 13), aI k 5 Y1.2.2.2.2.2.2.1), ((qf 14), aI k 4 Y1.2.2.2.2.2.2.2.1), ((qf 15), aI k 20 Y1.2.2.2.2.2.2.2.2.1), ((qf 16), aL k 9 Y1.2.2.2.2.2.2.2.2.2.1), ((qf 17), aI k 9 Y1.2.2.2.2.2.2.2.2.2.2)]) hP hD hS hA [0] [1, 2, 3, 4, 5, 6, 7, 8, 9] rfl rfl rfl (by decide) (xrV ⟨hx, hb, hml, hown, hts⟩ hg (m_X8_wrong l D k _ o r mv (.ref fo) Y1.2.1 Y1.2.2.1 6) hP hD [0] rfl rfl trivial (ci := 10) (q0 := 0) rfl rfl rfl q1409 q1411 qs47 q93 q1412 xo_X8_wrong ⟨rfl, rfl⟩ ⟨Nat.le_of_ble_eq_true rfl, Nat.le_of_ble_eq_true rfl⟩ hl.1 (Nat.le_of_ble_eq_true rfl) dX8_readMill_129 ⟨Nat.le_of_ble_eq_true rfl, Nat.le_of_ble_eq_true rfl⟩ rfl) (fun u38 H locs hw hP hD hS hk => ?_)
          have eu38 := hw
          have q5_u38 : (Y1.2.1 9) = 5 → u38.1 = 5 := fun h_ => by rw [eu38]; exact s5_wrong h_
          replace hP : va_P D vwCl [(o, eMM r mv (.ref fo) (upd (upd (upd Y1.2.1 9 u38.1) 13 u38.2.1) 14 u38.2.2) Y1.2.2.1), ((r 5), aB k 700 tp), (fo, eMI qf Y1.2.2.2.1), ((qf 11), aI k 6 Y1.2.2.2.2.1), ((qf 12), aI k 5 Y1.2.2.2.2.2.1), ((qf 13), aI k 5 Y1.2.2.2.2.2.2.1), ((qf 14), aI k 4 Y1.2.2.2.2.2.2.2.1), ((qf 15), aI k 20 Y1.2.2.2.2.2.2.2.2.1), ((qf 16), aL k 9 Y1.2.2.2.2.2.2.2.2.2.1), ((qf 17), aI k 9 Y1.2.2.2.2.2.2.2.2.2.2)] H := hP.sub [9, 0, 1, 2, 3, 4, 5, 6, 7, 8] rfl
          replace hD : va_D A [(o, eMM r mv (.ref fo) (upd (upd (upd Y1.2.1 9 u38.1) 13 u38.2.1) 14 u38.2.2) Y1.2.2.1), ((r 5), aB k 700 tp), (fo, eMI qf Y1.2.2.2.1), ((qf 11), aI k 6 Y1.2.2.2.2.1), ((qf 12), aI k 5 Y1.2.2.2.2.2.1), ((qf 13), aI k 5 Y1.2.2.2.2.2.2.1), ((qf 14), aI k 4 Y1.2.2.2.2.2.2.2.1), ((qf 15), aI k 20 Y1.2.2.2.2.2.2.2.2.1), ((qf 16), aL k 9 Y1.2.2.2.2.2.2.2.2.2.1), ((qf 17), aI k 9 Y1.2.2.2.2.2.2.2.2.2.2)] := hD.sub [9, 0, 1, 2, 3, 4, 5, 6, 7, 8] (by decide) rfl
          exact xret_v hx hb hr hlocks (Nat.le_of_ble_eq_true rfl) (Nat.le_of_ble_eq_true rfl) hS.2.2 dX8_readMill_132 (fun t ht => ⟨⟨(upd (upd (upd Y1.2.1 9 u38.1) 13 u38.2.1) 14 u38.2.2, Y1.2.2.1, Y1.2.2.2.1, Y1.2.2.2.2.1, Y1.2.2.2.2.2.1, Y1.2.2.2.2.2.2.1, Y1.2.2.2.2.2.2.2.1, Y1.2.2.2.2.2.2.2.2.1, Y1.2.2.2.2.2.2.2.2.2.1, Y1.2.2.2.2.2.2.2.2.2.2), rfl, ⟨(by (try rw [eu38]); subst ev36; subst eY1; exact Eq.symm (Eq.trans (if_pos c21) (Eq.trans (if_neg c37) (rfl)))), mInv.imp hE1.2 (fun _ => by first | exact wr_5 | (rw [eu38]; exact wr_5))⟩, by rw [ht]; exact hP, hD⟩, hS.F ht⟩)
      refine lv_icmp_eq (tgt := 116) hx hb dX8_readMill_49 (by decide) (fun c39 => ?_) (fun c39 => ?_)
      · refine lv_iconst (v := 1) hx hb dX8_readMill_116 ci_1 ?_
        refine lv_goto (tgt := 121) hx hb dX8_readMill_117 (by decide) ?_
        exact Jn1 1 _ _ _ (by exact Eq.symm (Eq.trans (if_pos c39) (rfl))) (Or.inr rfl) hP hD hS (lv_sub hl [0, 1] rfl)
      · refine lv_aload_n hx hb dX8_readMill_52 rfl (lv_at hl 1 rfl) ?_
        refine va_get (D := D) (ci := 10) (v := .ref fo) (C := RX8) (T := TX8) (N := 37) hx hb hts in_X8 hown hg.1 hP 0 rfl rfl 4 (Nat.le_of_ble_eq_true rfl) (hts _ q1145) (fun _ h9 => h9) rfl dX8_readMill_53 ?_
        refine va_getN (D := D) (ci := 11) (v := .int (Y1.2.2.2.1 2)) (C := RX13) (T := TX13) (N := 18) hx hb hts in_X13 hown hg.1 hP 2 rfl rfl 2 (Nat.le_of_ble_eq_true rfl) (nwF_181 hg) (fun _ h9 => h9) rfl dX8_readMill_56 ?_
        refine lv_iconst (v := (-1)) hx hb dX8_readMill_59 ci_m1 ?_
        refine lv_icmp_eq (tgt := 116) hx hb dX8_readMill_60 (by decide) (fun c40 => ?_) (fun c40 => ?_)
        · refine lv_iconst (v := 1) hx hb dX8_readMill_116 ci_1 ?_
          refine lv_goto (tgt := 121) hx hb dX8_readMill_117 (by decide) ?_
          exact Jn1 1 _ _ _ (by exact Eq.symm (Eq.trans (if_neg c39) (Eq.trans (if_pos c40) (rfl)))) (Or.inr rfl) hP hD hS (lv_sub hl [0, 1] rfl)
        · refine lv_aload_n hx hb dX8_readMill_63 rfl (lv_at hl 1 rfl) ?_
          refine va_get (D := D) (ci := 10) (v := .ref fo) (C := RX8) (T := TX8) (N := 37) hx hb hts in_X8 hown hg.1 hP 0 rfl rfl 4 (Nat.le_of_ble_eq_true rfl) (hts _ q1145) (fun _ h9 => h9) rfl dX8_readMill_64 ?_
          refine va_getN (D := D) (ci := 11) (v := .int (Y1.2.2.2.1 4)) (C := RX13) (T := TX13) (N := 18) hx hb hts in_X13 hown hg.1 hP 2 rfl rfl 4 (Nat.le_of_ble_eq_true rfl) (nwF_183 hg) (fun _ h9 => h9) rfl dX8_readMill_67 ?_
          refine lv_iconst (v := (-1)) hx hb dX8_readMill_70 ci_m1 ?_
          refine lv_icmp_eq (tgt := 116) hx hb dX8_readMill_71 (by decide) (fun c41 => ?_) (fun c41 => ?_)
          · refine lv_iconst (v := 1) hx hb dX8_readMill_116 ci_1 ?_
            refine lv_goto (tgt := 121) hx hb dX8_readMill_117 (by decide) ?_
            exact Jn1 1 _ _ _ (by exact Eq.symm (Eq.trans (if_neg c39) (Eq.trans (if_neg c40) (Eq.trans (if_pos c41) (rfl))))) (Or.inr rfl) hP hD hS (lv_sub hl [0, 1] rfl)
          · refine lv_aload_n hx hb dX8_readMill_74 rfl (lv_at hl 1 rfl) ?_
            refine va_get (D := D) (ci := 10) (v := .ref fo) (C := RX8) (T := TX8) (N := 37) hx hb hts in_X8 hown hg.1 hP 0 rfl rfl 4 (Nat.le_of_ble_eq_true rfl) (hts _ q1145) (fun _ h9 => h9) rfl dX8_readMill_75 ?_
            refine va_getN (D := D) (ci := 11) (v := .int (Y1.2.2.2.1 5)) (C := RX13) (T := TX13) (N := 18) hx hb hts in_X13 hown hg.1 hP 2 rfl rfl 5 (Nat.le_of_ble_eq_true rfl) (nwF_186 hg) (fun _ h9 => h9) rfl dX8_readMill_78 ?_
            refine lv_iconst (v := (-1)) hx hb dX8_readMill_81 ci_m1 ?_
            refine lv_icmp_eq (tgt := 116) hx hb dX8_readMill_82 (by decide) (fun c42 => ?_) (fun c42 => ?_)
            · refine lv_iconst (v := 1) hx hb dX8_readMill_116 ci_1 ?_
              refine lv_goto (tgt := 121) hx hb dX8_readMill_117 (by decide) ?_
              exact Jn1 1 _ _ _ (by exact Eq.symm (Eq.trans (if_neg c39) (Eq.trans (if_neg c40) (Eq.trans (if_neg c41) (Eq.trans (if_pos c42) (rfl)))))) (Or.inr rfl) hP hD hS (lv_sub hl [0, 1] rfl)
            · refine lv_aload_n hx hb dX8_readMill_85 rfl (lv_at hl 1 rfl) ?_
              refine va_get (D := D) (ci := 10) (v := .ref fo) (C := RX8) (T := TX8) (N := 37) hx hb hts in_X8 hown hg.1 hP 0 rfl rfl 4 (Nat.le_of_ble_eq_true rfl) (hts _ q1145) (fun _ h9 => h9) rfl dX8_readMill_86 ?_
              refine va_getN (D := D) (ci := 11) (v := .int (Y1.2.2.2.1 7)) (C := RX13) (T := TX13) (N := 18) hx hb hts in_X13 hown hg.1 hP 2 rfl rfl 7 (Nat.le_of_ble_eq_true rfl) (nwF_188 hg) (fun _ h9 => h9) rfl dX8_readMill_89 ?_
              refine lv_if_eq (tgt := 116) hx hb dX8_readMill_92 (by decide) (fun c43 => ?_) (fun c43 => ?_)
              · refine lv_iconst (v := 1) hx hb dX8_readMill_116 ci_1 ?_
                refine lv_goto (tgt := 121) hx hb dX8_readMill_117 (by decide) ?_
                exact Jn1 1 _ _ _ (by exact Eq.symm (Eq.trans (if_neg c39) (Eq.trans (if_neg c40) (Eq.trans (if_neg c41) (Eq.trans (if_neg c42) (Eq.trans (if_pos c43) (rfl))))))) (Or.inr rfl) hP hD hS (lv_sub hl [0, 1] rfl)
              · refine lv_aload_n hx hb dX8_readMill_95 rfl (lv_at hl 1 rfl) ?_
                refine va_get (D := D) (ci := 10) (v := .ref fo) (C := RX8) (T := TX8) (N := 37) hx hb hts in_X8 hown hg.1 hP 0 rfl rfl 4 (Nat.le_of_ble_eq_true rfl) (hts _ q1145) (fun _ h9 => h9) rfl dX8_readMill_96 ?_
                refine va_getN (D := D) (ci := 11) (v := .int (Y1.2.2.2.1 8)) (C := RX13) (T := TX13) (N := 18) hx hb hts in_X13 hown hg.1 hP 2 rfl rfl 8 (Nat.le_of_ble_eq_true rfl) (nwF_191 hg) (fun _ h9 => h9) rfl dX8_readMill_99 ?_
                refine lv_iconst (v := 2) hx hb dX8_readMill_102 ci_2 ?_
                refine lv_icmp_lt (tgt := 116) hx hb dX8_readMill_103 (by decide) (fun c44 => ?_) (fun c44 => ?_)
                · refine lv_iconst (v := 1) hx hb dX8_readMill_116 ci_1 ?_
                  refine lv_goto (tgt := 121) hx hb dX8_readMill_117 (by decide) ?_
                  exact Jn1 1 _ _ _ (by exact Eq.symm (Eq.trans (if_neg c39) (Eq.trans (if_neg c40) (Eq.trans (if_neg c41) (Eq.trans (if_neg c42) (Eq.trans (if_neg c43) (Eq.trans (if_pos c44) (rfl)))))))) (Or.inr rfl) hP hD hS (lv_sub hl [0, 1] rfl)
                · refine lv_aload_n hx hb dX8_readMill_106 rfl (lv_at hl 1 rfl) ?_
                  refine va_get (D := D) (ci := 10) (v := .ref fo) (C := RX8) (T := TX8) (N := 37) hx hb hts in_X8 hown hg.1 hP 0 rfl rfl 4 (Nat.le_of_ble_eq_true rfl) (hts _ q1145) (fun _ h9 => h9) rfl dX8_readMill_107 ?_
                  refine va_getN (D := D) (ci := 11) (v := .int (Y1.2.2.2.1 9)) (C := RX13) (T := TX13) (N := 18) hx hb hts in_X13 hown hg.1 hP 2 rfl rfl 9 (Nat.le_of_ble_eq_true rfl) (nwF_194 hg) (fun _ h9 => h9) rfl dX8_readMill_110 ?_
                  refine lv_if_ne (tgt := 120) hx hb dX8_readMill_113 (by decide) (fun c45 => ?_) (fun c45 => ?_)
                  · refine lv_iconst (v := 0) hx hb dX8_readMill_120 ci_0 ?_
                    exact Jn1 0 _ _ _ (by exact Eq.symm (Eq.trans (if_neg c39) (Eq.trans (if_neg c40) (Eq.trans (if_neg c41) (Eq.trans (if_neg c42) (Eq.trans (if_neg c43) (Eq.trans (if_neg c44) (Eq.trans (if_neg c45) (rfl))))))))) (Or.inl rfl) hP hD hS (lv_sub hl [0, 1] rfl)
                  · refine lv_iconst (v := 1) hx hb dX8_readMill_116 ci_1 ?_
                    refine lv_goto (tgt := 121) hx hb dX8_readMill_117 (by decide) ?_
                    exact Jn1 1 _ _ _ (by exact Eq.symm (Eq.trans (if_neg c39) (Eq.trans (if_neg c40) (Eq.trans (if_neg c41) (Eq.trans (if_neg c42) (Eq.trans (if_neg c43) (Eq.trans (if_neg c44) (Eq.trans (if_pos c45) (rfl))))))))) (Or.inr rfl) hP hD hS (lv_sub hl [0, 1] rfl)
    · refine lv_aload_n hx hb dX8_readMill_36 rfl (lv_at hl 1 rfl) ?_
      refine lv_iconst (v := 1) hx hb dX8_readMill_37 ci_1 ?_
      refine xc_v (wc := [(o, eMM r mv (.ref fo) Y1.2.1 Y1.2.2.1)]) (wr := [((r 5), aB k 700 tp), (fo, eMI qf Y1.2.2.2.1), ((qf 11), aI k 6 Y1.2.2.2.2.1), ((qf 12), aI k 5 Y1.2.2.2.2.2.1), ((qf 13), aI k 5 Y1.2.2.2.2.2.2.1), ((qf 14), aI k 4 Y1.2.2.2.2.2.2.2.1), ((qf 15), aI k 20 Y1.2.2.2.2.2.2.2.2.1), ((qf 16), aL k 9 Y1.2.2.2.2.2.2.2.2.2.1), ((qf 17), aI k 9 Y1.2.2.2.2.2.2.2.2.2.2)]) hP hD hS hA [0] [1, 2, 3, 4, 5, 6, 7, 8, 9] rfl rfl rfl (by decide) (xrV ⟨hx, hb, hml, hown, hts⟩ hg (m_X8_wrong l D k _ o r mv (.ref fo) Y1.2.1 Y1.2.2.1 1) hP hD [0] rfl rfl trivial (ci := 10) (q0 := 0) rfl rfl rfl q1409 q1411 qs47 q93 q1412 xo_X8_wrong ⟨rfl, rfl⟩ ⟨Nat.le_of_ble_eq_true rfl, Nat.le_of_ble_eq_true rfl⟩ hl.1 (Nat.le_of_ble_eq_true rfl) dX8_readMill_38 ⟨Nat.le_of_ble_eq_true rfl, Nat.le_of_ble_eq_true rfl⟩ rfl) (fun u46 H locs hw hP hD hS hk => ?_)
      have eu46 := hw
      have q5_u46 : (Y1.2.1 9) = 5 → u46.1 = 5 := fun h_ => by rw [eu46]; exact s5_wrong h_
      replace hP : va_P D vwCl [(o, eMM r mv (.ref fo) (upd (upd (upd Y1.2.1 9 u46.1) 13 u46.2.1) 14 u46.2.2) Y1.2.2.1), ((r 5), aB k 700 tp), (fo, eMI qf Y1.2.2.2.1), ((qf 11), aI k 6 Y1.2.2.2.2.1), ((qf 12), aI k 5 Y1.2.2.2.2.2.1), ((qf 13), aI k 5 Y1.2.2.2.2.2.2.1), ((qf 14), aI k 4 Y1.2.2.2.2.2.2.2.1), ((qf 15), aI k 20 Y1.2.2.2.2.2.2.2.2.1), ((qf 16), aL k 9 Y1.2.2.2.2.2.2.2.2.2.1), ((qf 17), aI k 9 Y1.2.2.2.2.2.2.2.2.2.2)] H := hP.sub [9, 0, 1, 2, 3, 4, 5, 6, 7, 8] rfl
      replace hD : va_D A [(o, eMM r mv (.ref fo) (upd (upd (upd Y1.2.1 9 u46.1) 13 u46.2.1) 14 u46.2.2) Y1.2.2.1), ((r 5), aB k 700 tp), (fo, eMI qf Y1.2.2.2.1), ((qf 11), aI k 6 Y1.2.2.2.2.1), ((qf 12), aI k 5 Y1.2.2.2.2.2.1), ((qf 13), aI k 5 Y1.2.2.2.2.2.2.1), ((qf 14), aI k 4 Y1.2.2.2.2.2.2.2.1), ((qf 15), aI k 20 Y1.2.2.2.2.2.2.2.2.1), ((qf 16), aL k 9 Y1.2.2.2.2.2.2.2.2.2.1), ((qf 17), aI k 9 Y1.2.2.2.2.2.2.2.2.2.2)] := hD.sub [9, 0, 1, 2, 3, 4, 5, 6, 7, 8] (by decide) rfl
      refine lv_aload_n hx hb dX8_readMill_41 rfl (lv_at hl 1 rfl) ?_
      refine va_get (D := D) (ci := 10) (v := .ref fo) (C := RX8) (T := TX8) (N := 37) hx hb hts in_X8 hown hg.1 hP 0 rfl rfl 4 (Nat.le_of_ble_eq_true rfl) (hts _ q1145) (fun _ h9 => h9) rfl dX8_readMill_42 ?_
      refine va_getN (D := D) (ci := 11) (v := .int (Y1.2.2.2.1 0)) (C := RX13) (T := TX13) (N := 18) hx hb hts in_X13 hown hg.1 hP 2 rfl rfl 0 (Nat.le_of_ble_eq_true rfl) (nwF_176 hg) (fun _ h9 => h9) rfl dX8_readMill_45 ?_
      refine lv_iconst (v := (-1)) hx hb dX8_readMill_48 ci_m1 ?_
      have Jn2 : ∀ (v61 : (Int32)) (H : Heap) (locs : List Loc) (ls : Array Slot), v61 = f_X8_readMill_j2 Y1 → (v61 = 0 ∨ v61 = 1) → va_P D vwCl [(o, eMM r mv (.ref fo) (upd (upd (upd Y1.2.1 9 u46.1) 13 u46.2.1) 14 u46.2.2) Y1.2.2.1), ((r 5), aB k 700 tp), (fo, eMI qf Y1.2.2.2.1), ((qf 11), aI k 6 Y1.2.2.2.2.1), ((qf 12), aI k 5 Y1.2.2.2.2.2.1), ((qf 13), aI k 5 Y1.2.2.2.2.2.2.1), ((qf 14), aI k 4 Y1.2.2.2.2.2.2.2.1), ((qf 15), aI k 20 Y1.2.2.2.2.2.2.2.2.1), ((qf 16), aL k 9 Y1.2.2.2.2.2.2.2.2.2.1), ((qf 17), aI k 9 Y1.2.2.2.2.2.2.2.2.2.2)] H → va_D A [(o, eMM r mv (.ref fo) (upd (upd (upd Y1.2.1 9 u46.1) 13 u46.2.1) 14 u46.2.2) Y1.2.2.1), ((r 5), aB k 700 tp), (fo, eMI qf Y1.2.2.2.1), ((qf 11), aI k 6 Y1.2.2.2.2.1), ((qf 12), aI k 5 Y1.2.2.2.2.2.1), ((qf 13), aI k 5 Y1.2.2.2.2.2.2.1), ((qf 14), aI k 4 Y1.2.2.2.2.2.2.2.1), ((qf 15), aI k 20 Y1.2.2.2.2.2.2.2.2.1), ((qf 16), aL k 9 Y1.2.2.2.2.2.2.2.2.2.1), ((qf 17), aI k 9 Y1.2.2.2.2.2.2.2.2.2.2)] → va_S A s.heap H locs → lv_has ls 3 [(1, .int Y1.1), (0, .ref o)] → W p l e rm_X8_readMill s m ([.ref o] : List Value).toArray below meth c H locs 0 0 (MQ below (q_X8_readMill D k o r mv I L tp fo qf J zj gpr gbr gnx ghd gtn gnm gse A) ([.ref o] : List Value).toArray s 0 0 A) (F0 m 121 ls [.int v61]) := by
        intro v61 H locs ls ev61 bv61_0 hP hD hS hl
        refine lv_istore_n (lv' := [(2, .int v61), (1, .int Y1.1), (0, .ref o)]) hx hb dX8_readMill_121 rfl hl (Nat.le_of_ble_eq_true rfl) rfl (fun ls hl => ?_)
        refine lv_iload_n hx hb dX8_readMill_122 rfl (lv_at hl 0 rfl) ?_
        refine lv_if_eq (tgt := 132) hx hb dX8_readMill_123 (by decide) (fun c62 => ?_) (fun c62 => ?_)
        · exact xret_v hx hb hr hlocks (Nat.le_of_ble_eq_true rfl) (Nat.le_of_ble_eq_true rfl) hS.2.2 dX8_readMill_132 (fun t ht => ⟨⟨(upd (upd (upd Y1.2.1 9 u46.1) 13 u46.2.1) 14 u46.2.2, Y1.2.2.1, Y1.2.2.2.1, Y1.2.2.2.2.1, Y1.2.2.2.2.2.1, Y1.2.2.2.2.2.2.1, Y1.2.2.2.2.2.2.2.1, Y1.2.2.2.2.2.2.2.2.1, Y1.2.2.2.2.2.2.2.2.2.1, Y1.2.2.2.2.2.2.2.2.2.2), rfl, ⟨(by subst ev61; (try rw [eu46]); subst eY1; exact Eq.symm (Eq.trans (if_neg c21) (Eq.trans (if_pos c62) (rfl)))), mInv.imp hE1.2 (fun _ => by first | exact wr_5 | (rw [eu46]; exact wr_5))⟩, by rw [ht]; exact hP, hD⟩, hS.F ht⟩)
        · refine lv_aload_n hx hb dX8_readMill_126 rfl (lv_at hl 2 rfl) ?_
          refine lv_bipush (v := 6) hx hb dX8_readMill_127 cb_6 ?_
          refine xc_v (wc := [(o, eMM r mv (.ref fo) (upd (upd (upd Y1.2.1 9 u46.1) 13 u46.2.1) 14 u46.2.2) Y1.2.2.1)]) (wr := [((r 5), aB k 700 tp), (fo, eMI qf Y1.2.2.2.1), ((qf 11), aI k 6 Y1.2.2.2.2.1), ((qf 12), aI k 5 Y1.2.2.2.2.2.1), ((qf 13), aI k 5 Y1.2.2.2.2.2.2.1), ((qf 14), aI k 4 Y1.2.2.2.2.2.2.2.1), ((qf 15), aI k 20 Y1.2.2.2.2.2.2.2.2.1), ((qf 16), aL k 9 Y1.2.2.2.2.2.2.2.2.2.1), ((qf 17), aI k 9 Y1.2.2.2.2.2.2.2.2.2.2)]) hP hD hS hA [0] [1, 2, 3, 4, 5, 6, 7, 8, 9] rfl rfl rfl (by decide) (xrV ⟨hx, hb, hml, hown, hts⟩ hg (m_X8_wrong l D k _ o r mv (.ref fo) (upd (upd (upd Y1.2.1 9 u46.1) 13 u46.2.1) 14 u46.2.2) Y1.2.2.1 6) hP hD [0] rfl rfl trivial (ci := 10) (q0 := 0) rfl rfl rfl q1409 q1411 qs47 q93 q1412 xo_X8_wrong ⟨rfl, rfl⟩ ⟨Nat.le_of_ble_eq_true rfl, Nat.le_of_ble_eq_true rfl⟩ hl.1 (Nat.le_of_ble_eq_true rfl) dX8_readMill_129 ⟨Nat.le_of_ble_eq_true rfl, Nat.le_of_ble_eq_true rfl⟩ rfl) (fun u63 H locs hw hP hD hS hk => ?_)
          have eu63 := hw
          have q5_u63 : u46.1 = 5 → u63.1 = 5 := fun h_ => by rw [eu63]; exact s5_wrong h_
          replace hP : va_P D vwCl [(o, eMM r mv (.ref fo) (upd (upd (upd Y1.2.1 9 u63.1) 13 u63.2.1) 14 u63.2.2) Y1.2.2.1), ((r 5), aB k 700 tp), (fo, eMI qf Y1.2.2.2.1), ((qf 11), aI k 6 Y1.2.2.2.2.1), ((qf 12), aI k 5 Y1.2.2.2.2.2.1), ((qf 13), aI k 5 Y1.2.2.2.2.2.2.1), ((qf 14), aI k 4 Y1.2.2.2.2.2.2.2.1), ((qf 15), aI k 20 Y1.2.2.2.2.2.2.2.2.1), ((qf 16), aL k 9 Y1.2.2.2.2.2.2.2.2.2.1), ((qf 17), aI k 9 Y1.2.2.2.2.2.2.2.2.2.2)] H := hP.sub [9, 0, 1, 2, 3, 4, 5, 6, 7, 8] rfl
          replace hD : va_D A [(o, eMM r mv (.ref fo) (upd (upd (upd Y1.2.1 9 u63.1) 13 u63.2.1) 14 u63.2.2) Y1.2.2.1), ((r 5), aB k 700 tp), (fo, eMI qf Y1.2.2.2.1), ((qf 11), aI k 6 Y1.2.2.2.2.1), ((qf 12), aI k 5 Y1.2.2.2.2.2.1), ((qf 13), aI k 5 Y1.2.2.2.2.2.2.1), ((qf 14), aI k 4 Y1.2.2.2.2.2.2.2.1), ((qf 15), aI k 20 Y1.2.2.2.2.2.2.2.2.1), ((qf 16), aL k 9 Y1.2.2.2.2.2.2.2.2.2.1), ((qf 17), aI k 9 Y1.2.2.2.2.2.2.2.2.2.2)] := hD.sub [9, 0, 1, 2, 3, 4, 5, 6, 7, 8] (by decide) rfl
          exact xret_v hx hb hr hlocks (Nat.le_of_ble_eq_true rfl) (Nat.le_of_ble_eq_true rfl) hS.2.2 dX8_readMill_132 (fun t ht => ⟨⟨(upd (upd (upd Y1.2.1 9 u63.1) 13 u63.2.1) 14 u63.2.2, Y1.2.2.1, Y1.2.2.2.1, Y1.2.2.2.2.1, Y1.2.2.2.2.2.1, Y1.2.2.2.2.2.2.1, Y1.2.2.2.2.2.2.2.1, Y1.2.2.2.2.2.2.2.2.1, Y1.2.2.2.2.2.2.2.2.2.1, Y1.2.2.2.2.2.2.2.2.2.2), rfl, ⟨(by (try rw [eu63]); subst ev61; (try rw [eu46]); subst eY1; exact Eq.symm (Eq.trans (if_neg c21) (Eq.trans (if_neg c62) (rfl)))), mInv.imp hE1.2 (fun _ => by first | exact wr_5 | (rw [eu63]; exact wr_5))⟩, by rw [ht]; exact hP, hD⟩, hS.F ht⟩)
      refine lv_icmp_eq (tgt := 116) hx hb dX8_readMill_49 (by decide) (fun c64 => ?_) (fun c64 => ?_)
      · refine lv_iconst (v := 1) hx hb dX8_readMill_116 ci_1 ?_
        refine lv_goto (tgt := 121) hx hb dX8_readMill_117 (by decide) ?_
        exact Jn2 1 _ _ _ (by exact Eq.symm (Eq.trans (if_pos c64) (rfl))) (Or.inr rfl) hP hD hS (lv_sub hl [0, 1] rfl)
      · refine lv_aload_n hx hb dX8_readMill_52 rfl (lv_at hl 1 rfl) ?_
        refine va_get (D := D) (ci := 10) (v := .ref fo) (C := RX8) (T := TX8) (N := 37) hx hb hts in_X8 hown hg.1 hP 0 rfl rfl 4 (Nat.le_of_ble_eq_true rfl) (hts _ q1145) (fun _ h9 => h9) rfl dX8_readMill_53 ?_
        refine va_getN (D := D) (ci := 11) (v := .int (Y1.2.2.2.1 2)) (C := RX13) (T := TX13) (N := 18) hx hb hts in_X13 hown hg.1 hP 2 rfl rfl 2 (Nat.le_of_ble_eq_true rfl) (nwF_181 hg) (fun _ h9 => h9) rfl dX8_readMill_56 ?_
        refine lv_iconst (v := (-1)) hx hb dX8_readMill_59 ci_m1 ?_
        refine lv_icmp_eq (tgt := 116) hx hb dX8_readMill_60 (by decide) (fun c65 => ?_) (fun c65 => ?_)
        · refine lv_iconst (v := 1) hx hb dX8_readMill_116 ci_1 ?_
          refine lv_goto (tgt := 121) hx hb dX8_readMill_117 (by decide) ?_
          exact Jn2 1 _ _ _ (by exact Eq.symm (Eq.trans (if_neg c64) (Eq.trans (if_pos c65) (rfl)))) (Or.inr rfl) hP hD hS (lv_sub hl [0, 1] rfl)
        · refine lv_aload_n hx hb dX8_readMill_63 rfl (lv_at hl 1 rfl) ?_
          refine va_get (D := D) (ci := 10) (v := .ref fo) (C := RX8) (T := TX8) (N := 37) hx hb hts in_X8 hown hg.1 hP 0 rfl rfl 4 (Nat.le_of_ble_eq_true rfl) (hts _ q1145) (fun _ h9 => h9) rfl dX8_readMill_64 ?_
          refine va_getN (D := D) (ci := 11) (v := .int (Y1.2.2.2.1 4)) (C := RX13) (T := TX13) (N := 18) hx hb hts in_X13 hown hg.1 hP 2 rfl rfl 4 (Nat.le_of_ble_eq_true rfl) (nwF_183 hg) (fun _ h9 => h9) rfl dX8_readMill_67 ?_
          refine lv_iconst (v := (-1)) hx hb dX8_readMill_70 ci_m1 ?_
          refine lv_icmp_eq (tgt := 116) hx hb dX8_readMill_71 (by decide) (fun c66 => ?_) (fun c66 => ?_)
          · refine lv_iconst (v := 1) hx hb dX8_readMill_116 ci_1 ?_
            refine lv_goto (tgt := 121) hx hb dX8_readMill_117 (by decide) ?_
            exact Jn2 1 _ _ _ (by exact Eq.symm (Eq.trans (if_neg c64) (Eq.trans (if_neg c65) (Eq.trans (if_pos c66) (rfl))))) (Or.inr rfl) hP hD hS (lv_sub hl [0, 1] rfl)
          · refine lv_aload_n hx hb dX8_readMill_74 rfl (lv_at hl 1 rfl) ?_
            refine va_get (D := D) (ci := 10) (v := .ref fo) (C := RX8) (T := TX8) (N := 37) hx hb hts in_X8 hown hg.1 hP 0 rfl rfl 4 (Nat.le_of_ble_eq_true rfl) (hts _ q1145) (fun _ h9 => h9) rfl dX8_readMill_75 ?_
            refine va_getN (D := D) (ci := 11) (v := .int (Y1.2.2.2.1 5)) (C := RX13) (T := TX13) (N := 18) hx hb hts in_X13 hown hg.1 hP 2 rfl rfl 5 (Nat.le_of_ble_eq_true rfl) (nwF_186 hg) (fun _ h9 => h9) rfl dX8_readMill_78 ?_
            refine lv_iconst (v := (-1)) hx hb dX8_readMill_81 ci_m1 ?_
            refine lv_icmp_eq (tgt := 116) hx hb dX8_readMill_82 (by decide) (fun c67 => ?_) (fun c67 => ?_)
            · refine lv_iconst (v := 1) hx hb dX8_readMill_116 ci_1 ?_
              refine lv_goto (tgt := 121) hx hb dX8_readMill_117 (by decide) ?_
              exact Jn2 1 _ _ _ (by exact Eq.symm (Eq.trans (if_neg c64) (Eq.trans (if_neg c65) (Eq.trans (if_neg c66) (Eq.trans (if_pos c67) (rfl)))))) (Or.inr rfl) hP hD hS (lv_sub hl [0, 1] rfl)
            · refine lv_aload_n hx hb dX8_readMill_85 rfl (lv_at hl 1 rfl) ?_
              refine va_get (D := D) (ci := 10) (v := .ref fo) (C := RX8) (T := TX8) (N := 37) hx hb hts in_X8 hown hg.1 hP 0 rfl rfl 4 (Nat.le_of_ble_eq_true rfl) (hts _ q1145) (fun _ h9 => h9) rfl dX8_readMill_86 ?_
              refine va_getN (D := D) (ci := 11) (v := .int (Y1.2.2.2.1 7)) (C := RX13) (T := TX13) (N := 18) hx hb hts in_X13 hown hg.1 hP 2 rfl rfl 7 (Nat.le_of_ble_eq_true rfl) (nwF_188 hg) (fun _ h9 => h9) rfl dX8_readMill_89 ?_
              refine lv_if_eq (tgt := 116) hx hb dX8_readMill_92 (by decide) (fun c68 => ?_) (fun c68 => ?_)
              · refine lv_iconst (v := 1) hx hb dX8_readMill_116 ci_1 ?_
                refine lv_goto (tgt := 121) hx hb dX8_readMill_117 (by decide) ?_
                exact Jn2 1 _ _ _ (by exact Eq.symm (Eq.trans (if_neg c64) (Eq.trans (if_neg c65) (Eq.trans (if_neg c66) (Eq.trans (if_neg c67) (Eq.trans (if_pos c68) (rfl))))))) (Or.inr rfl) hP hD hS (lv_sub hl [0, 1] rfl)
              · refine lv_aload_n hx hb dX8_readMill_95 rfl (lv_at hl 1 rfl) ?_
                refine va_get (D := D) (ci := 10) (v := .ref fo) (C := RX8) (T := TX8) (N := 37) hx hb hts in_X8 hown hg.1 hP 0 rfl rfl 4 (Nat.le_of_ble_eq_true rfl) (hts _ q1145) (fun _ h9 => h9) rfl dX8_readMill_96 ?_
                refine va_getN (D := D) (ci := 11) (v := .int (Y1.2.2.2.1 8)) (C := RX13) (T := TX13) (N := 18) hx hb hts in_X13 hown hg.1 hP 2 rfl rfl 8 (Nat.le_of_ble_eq_true rfl) (nwF_191 hg) (fun _ h9 => h9) rfl dX8_readMill_99 ?_
                refine lv_iconst (v := 2) hx hb dX8_readMill_102 ci_2 ?_
                refine lv_icmp_lt (tgt := 116) hx hb dX8_readMill_103 (by decide) (fun c69 => ?_) (fun c69 => ?_)
                · refine lv_iconst (v := 1) hx hb dX8_readMill_116 ci_1 ?_
                  refine lv_goto (tgt := 121) hx hb dX8_readMill_117 (by decide) ?_
                  exact Jn2 1 _ _ _ (by exact Eq.symm (Eq.trans (if_neg c64) (Eq.trans (if_neg c65) (Eq.trans (if_neg c66) (Eq.trans (if_neg c67) (Eq.trans (if_neg c68) (Eq.trans (if_pos c69) (rfl)))))))) (Or.inr rfl) hP hD hS (lv_sub hl [0, 1] rfl)
                · refine lv_aload_n hx hb dX8_readMill_106 rfl (lv_at hl 1 rfl) ?_
                  refine va_get (D := D) (ci := 10) (v := .ref fo) (C := RX8) (T := TX8) (N := 37) hx hb hts in_X8 hown hg.1 hP 0 rfl rfl 4 (Nat.le_of_ble_eq_true rfl) (hts _ q1145) (fun _ h9 => h9) rfl dX8_readMill_107 ?_
                  refine va_getN (D := D) (ci := 11) (v := .int (Y1.2.2.2.1 9)) (C := RX13) (T := TX13) (N := 18) hx hb hts in_X13 hown hg.1 hP 2 rfl rfl 9 (Nat.le_of_ble_eq_true rfl) (nwF_194 hg) (fun _ h9 => h9) rfl dX8_readMill_110 ?_
                  refine lv_if_ne (tgt := 120) hx hb dX8_readMill_113 (by decide) (fun c70 => ?_) (fun c70 => ?_)
                  · refine lv_iconst (v := 0) hx hb dX8_readMill_120 ci_0 ?_
                    exact Jn2 0 _ _ _ (by exact Eq.symm (Eq.trans (if_neg c64) (Eq.trans (if_neg c65) (Eq.trans (if_neg c66) (Eq.trans (if_neg c67) (Eq.trans (if_neg c68) (Eq.trans (if_neg c69) (Eq.trans (if_neg c70) (rfl))))))))) (Or.inl rfl) hP hD hS (lv_sub hl [0, 1] rfl)
                  · refine lv_iconst (v := 1) hx hb dX8_readMill_116 ci_1 ?_
                    refine lv_goto (tgt := 121) hx hb dX8_readMill_117 (by decide) ?_
                    exact Jn2 1 _ _ _ (by exact Eq.symm (Eq.trans (if_neg c64) (Eq.trans (if_neg c65) (Eq.trans (if_neg c66) (Eq.trans (if_neg c67) (Eq.trans (if_neg c68) (Eq.trans (if_neg c69) (Eq.trans (if_pos c70) (rfl))))))))) (Or.inr rfl) hP hD hS (lv_sub hl [0, 1] rfl)
  have loop1 : ∀ (n1 : Nat) (X1 : (Int32) × (Nat → Int32) × (Nat → Int64) × (Nat → Int32) × (Nat → Int32) × (Nat → Int32) × (Nat → Int32) × (Nat → Int32) × (Nat → Int32) × (Nat → Int64) × (Nat → Int32)) (H : Heap) (locs : List Loc) (ls : Array Slot), f_X8_readMill_l2 tp zj n1 X1 = f_X8_readMill_l2 tp zj (zj + 3) (1, I, L, J, gpr, gbr, gnx, ghd, gtn, gnm, gse) → (atz zj (X1.2.1 8) ∧ X1.2.1 7 = nI zj ∧ mInv X1.2.2.2.1 (X1.2.1 9) ∧ (zj - (X1.2.1 8).toNatClampNeg + 1 < n1 ∨ (X1.1 = 0 ∧ 0 < n1))) → (X1.1 = 0 ∨ X1.1 = 1) → va_P D vwCl [(o, eMM r mv (.ref fo) X1.2.1 X1.2.2.1), ((r 5), aB k 700 tp), (fo, eMI qf X1.2.2.2.1), ((qf 11), aI k 6 X1.2.2.2.2.1), ((qf 12), aI k 5 X1.2.2.2.2.2.1), ((qf 13), aI k 5 X1.2.2.2.2.2.2.1), ((qf 14), aI k 4 X1.2.2.2.2.2.2.2.1), ((qf 15), aI k 20 X1.2.2.2.2.2.2.2.2.1), ((qf 16), aL k 9 X1.2.2.2.2.2.2.2.2.2.1), ((qf 17), aI k 9 X1.2.2.2.2.2.2.2.2.2.2)] H → va_D A [(o, eMM r mv (.ref fo) X1.2.1 X1.2.2.1), ((r 5), aB k 700 tp), (fo, eMI qf X1.2.2.2.1), ((qf 11), aI k 6 X1.2.2.2.2.1), ((qf 12), aI k 5 X1.2.2.2.2.2.1), ((qf 13), aI k 5 X1.2.2.2.2.2.2.1), ((qf 14), aI k 4 X1.2.2.2.2.2.2.2.1), ((qf 15), aI k 20 X1.2.2.2.2.2.2.2.2.1), ((qf 16), aL k 9 X1.2.2.2.2.2.2.2.2.2.1), ((qf 17), aI k 9 X1.2.2.2.2.2.2.2.2.2.2)] → va_S A s.heap H locs → lv_has ls 3 [(1, .int X1.1), (0, .ref o)] → W p l e rm_X8_readMill s m ([.ref o] : List Value).toArray below meth c H locs 0 0 (MQ below (q_X8_readMill D k o r mv I L tp fo qf J zj gpr gbr gnx ghd gtn gnm gse A) ([.ref o] : List Value).toArray s 0 0 A) (F0 m 2 ls []) := by
    intro n1
    induction n1 with
    | zero => intro X1 H locs ls eX1 hv1; exact absurd (by rcases hv1.2.2.2 with h_ | ⟨_, h_⟩ <;> omega) (fun h => h)
    | succ n1 ih1 =>
      intro X1 H locs ls eX1 hv1 bX1_0 hP hD hS hl
      refine lv_iload_n hx hb dX8_readMill_2 rfl (lv_at hl 0 rfl) ?_
      refine lv_if_eq (tgt := 28) hx hb dX8_readMill_3 (by decide) (fun c71 => ?_) (fun c71 => ?_)
      · exact Jx1 (X1.1, X1.2.1, X1.2.2.1, X1.2.2.2.1, X1.2.2.2.2.1, X1.2.2.2.2.2.1, X1.2.2.2.2.2.2.1, X1.2.2.2.2.2.2.2.1, X1.2.2.2.2.2.2.2.2.1, X1.2.2.2.2.2.2.2.2.2.1, X1.2.2.2.2.2.2.2.2.2.2) _ _ _ (Eq.trans (by exact Eq.symm (Eq.trans (if_pos c71) (rfl))) eX1) bX1_0 ⟨hv1.1, hv1.2.2.1⟩ hP hD hS (lv_sub hl [0, 1] rfl)
      · have hmi := mInv.nat hv1.2.2.1
        have hmore := c71
        refine lv_aload_n hx hb dX8_readMill_6 rfl (lv_at hl 1 rfl) ?_
        refine xc_v (wc := [(o, eMM r mv (.ref fo) X1.2.1 X1.2.2.1), ((r 5), aB k 700 tp), (fo, eMI qf X1.2.2.2.1), ((qf 11), aI k 6 X1.2.2.2.2.1), ((qf 12), aI k 5 X1.2.2.2.2.2.1), ((qf 13), aI k 5 X1.2.2.2.2.2.2.1), ((qf 14), aI k 4 X1.2.2.2.2.2.2.2.1), ((qf 15), aI k 20 X1.2.2.2.2.2.2.2.2.1), ((qf 16), aL k 9 X1.2.2.2.2.2.2.2.2.2.1), ((qf 17), aI k 9 X1.2.2.2.2.2.2.2.2.2.2)]) (wr := []) hP hD hS hA [0, 1, 2, 3, 4, 5, 6, 7, 8, 9] [] rfl rfl rfl (by decide) (xrV ⟨hx, hb, hml, hown, hts⟩ hg (m_X8_readLine l D k _ o r mv X1.2.1 X1.2.2.1 tp fo qf X1.2.2.2.1 zj X1.2.2.2.2.1 X1.2.2.2.2.2.1 X1.2.2.2.2.2.2.1 X1.2.2.2.2.2.2.2.1 X1.2.2.2.2.2.2.2.2.1 X1.2.2.2.2.2.2.2.2.2.1 X1.2.2.2.2.2.2.2.2.2.2 ((X1.2.2.2.1 7).toNatClampNeg) ((X1.2.2.2.1 8).toNatClampNeg) ((X1.2.2.2.1 9).toNatClampNeg) ((X1.2.2.2.1 10).toNatClampNeg) hz hv1.2.1 hz7 hv1.1 hmi.1 hmi.2.1 hmi.2.2.1 hmi.2.2.2.1 hmi.2.2.2.2.1 hmi.2.2.2.2.2.1 hmi.2.2.2.2.2.2.1 hmi.2.2.2.2.2.2.2.1 hmi.2.2.2.2.2.2.2.2) hP hD [0, 1, 2, 3, 4, 5, 6, 7, 8, 9] rfl rfl (oldY.call hO hS (va_free (wc := [(o, eMM r mv (.ref fo) X1.2.1 X1.2.2.1), ((r 5), aB k 700 tp), (fo, eMI qf X1.2.2.2.1), ((qf 11), aI k 6 X1.2.2.2.2.1), ((qf 12), aI k 5 X1.2.2.2.2.2.1), ((qf 13), aI k 5 X1.2.2.2.2.2.2.1), ((qf 14), aI k 4 X1.2.2.2.2.2.2.2.1), ((qf 15), aI k 20 X1.2.2.2.2.2.2.2.2.1), ((qf 16), aL k 9 X1.2.2.2.2.2.2.2.2.2.1), ((qf 17), aI k 9 X1.2.2.2.2.2.2.2.2.2.2)]) hD hS hA [0, 1, 2, 3, 4, 5, 6, 7, 8, 9] rfl)) (ci := 10) (q0 := 0) rfl rfl rfl q1361 q1363 qs43 q93 q1364 xo_X8_readLine ⟨rfl, rfl⟩ ⟨Nat.le_of_ble_eq_true rfl, Nat.le_of_ble_eq_true rfl⟩ hl.1 (Nat.le_of_ble_eq_true rfl) dX8_readMill_7 ⟨Nat.le_of_ble_eq_true rfl, Nat.le_of_ble_eq_true rfl⟩ rfl) (fun u72 H locs hw hP hD hS hk => ?_)
        obtain ⟨eu72, pu72_at, pu72_mi, pu72_ad, pu72_sz⟩ := hw
        replace hP : va_P D vwCl [(o, eMM r mv (.ref fo) u72.1 u72.2.1), ((r 5), aB k 700 tp), (fo, eMI qf u72.2.2.1), ((qf 11), aI k 6 u72.2.2.2.1), ((qf 12), aI k 5 u72.2.2.2.2.1), ((qf 13), aI k 5 u72.2.2.2.2.2.1), ((qf 14), aI k 4 u72.2.2.2.2.2.2.1), ((qf 15), aI k 20 u72.2.2.2.2.2.2.2.1), ((qf 16), aL k 9 u72.2.2.2.2.2.2.2.2.1), ((qf 17), aI k 9 u72.2.2.2.2.2.2.2.2.2)] H := hP.sub [0, 1, 2, 3, 4, 5, 6, 7, 8, 9] rfl
        replace hD : va_D A [(o, eMM r mv (.ref fo) u72.1 u72.2.1), ((r 5), aB k 700 tp), (fo, eMI qf u72.2.2.1), ((qf 11), aI k 6 u72.2.2.2.1), ((qf 12), aI k 5 u72.2.2.2.2.1), ((qf 13), aI k 5 u72.2.2.2.2.2.1), ((qf 14), aI k 4 u72.2.2.2.2.2.2.1), ((qf 15), aI k 20 u72.2.2.2.2.2.2.2.1), ((qf 16), aL k 9 u72.2.2.2.2.2.2.2.2.1), ((qf 17), aI k 9 u72.2.2.2.2.2.2.2.2.2)] := hD.sub [0, 1, 2, 3, 4, 5, 6, 7, 8, 9] (by decide) rfl
        refine lv_aload_n hx hb dX8_readMill_10 rfl (lv_at hl 1 rfl) ?_
        refine lv_bipush (v := 59) hx hb dX8_readMill_11 cb_59 ?_
        refine xc_i (wc := [(o, eMM r mv (.ref fo) u72.1 u72.2.1)]) (wr := [((r 5), aB k 700 tp), (fo, eMI qf u72.2.2.1), ((qf 11), aI k 6 u72.2.2.2.1), ((qf 12), aI k 5 u72.2.2.2.2.1), ((qf 13), aI k 5 u72.2.2.2.2.2.1), ((qf 14), aI k 4 u72.2.2.2.2.2.2.1), ((qf 15), aI k 20 u72.2.2.2.2.2.2.2.1), ((qf 16), aL k 9 u72.2.2.2.2.2.2.2.2.1), ((qf 17), aI k 9 u72.2.2.2.2.2.2.2.2.2)]) hP hD hS hA [0] [1, 2, 3, 4, 5, 6, 7, 8, 9] rfl rfl rfl (by decide) (xrV ⟨hx, hb, hml, hown, hts⟩ hg (m_X8_is l D k _ o r mv (.ref fo) u72.1 u72.2.1 59) hP hD [0] rfl rfl trivial (ci := 10) (q0 := 0) rfl rfl rfl q1462 q1464 qs56 q93 q1465 xo_X8_is ⟨rfl, rfl⟩ ⟨Nat.le_of_ble_eq_true rfl, Nat.le_of_ble_eq_true rfl⟩ hl.1 (Nat.le_of_ble_eq_true rfl) dX8_readMill_13 ⟨Nat.le_of_ble_eq_true rfl, Nat.le_of_ble_eq_true rfl⟩ rfl) (fun u73 r_ H locs hw hP hD hS hk => ?_)
        obtain ⟨rfl, eu73, bu73⟩ := hw
        replace hP : va_P D vwCl [(o, eMM r mv (.ref fo) u72.1 u72.2.1), ((r 5), aB k 700 tp), (fo, eMI qf u72.2.2.1), ((qf 11), aI k 6 u72.2.2.2.1), ((qf 12), aI k 5 u72.2.2.2.2.1), ((qf 13), aI k 5 u72.2.2.2.2.2.1), ((qf 14), aI k 4 u72.2.2.2.2.2.2.1), ((qf 15), aI k 20 u72.2.2.2.2.2.2.2.1), ((qf 16), aL k 9 u72.2.2.2.2.2.2.2.2.1), ((qf 17), aI k 9 u72.2.2.2.2.2.2.2.2.2)] H := hP.sub [9, 0, 1, 2, 3, 4, 5, 6, 7, 8] rfl
        replace hD : va_D A [(o, eMM r mv (.ref fo) u72.1 u72.2.1), ((r 5), aB k 700 tp), (fo, eMI qf u72.2.2.1), ((qf 11), aI k 6 u72.2.2.2.1), ((qf 12), aI k 5 u72.2.2.2.2.1), ((qf 13), aI k 5 u72.2.2.2.2.2.1), ((qf 14), aI k 4 u72.2.2.2.2.2.2.1), ((qf 15), aI k 20 u72.2.2.2.2.2.2.2.1), ((qf 16), aL k 9 u72.2.2.2.2.2.2.2.2.1), ((qf 17), aI k 9 u72.2.2.2.2.2.2.2.2.2)] := hD.sub [9, 0, 1, 2, 3, 4, 5, 6, 7, 8] (by decide) rfl
        refine lv_istore_n (lv' := [(1, .int u73), (0, .ref o)]) hx hb dX8_readMill_16 rfl hl (Nat.le_of_ble_eq_true rfl) rfl (fun ls hl => ?_)
        refine lv_iload_n hx hb dX8_readMill_17 rfl (lv_at hl 0 rfl) ?_
        refine lv_if_eq (tgt := 2) hx hb dX8_readMill_18 (by decide) (fun c74 => ?_) (fun c74 => ?_)
        · exact ih1 (u73, u72.1, u72.2.1, u72.2.2.1, u72.2.2.2.1, u72.2.2.2.2.1, u72.2.2.2.2.2.1, u72.2.2.2.2.2.2.1, u72.2.2.2.2.2.2.2.1, u72.2.2.2.2.2.2.2.2.1, u72.2.2.2.2.2.2.2.2.2) _ _ _ (Eq.trans (by subst eu73; subst eu72; exact Eq.symm (Eq.trans (if_neg c71) (Eq.trans (if_pos c74) (rfl)))) eX1) ⟨pu72_at, pu72_sz.trans hv1.2.1, pu72_mi, Or.inr ⟨c74, ml_0 hmore hv1.2.2.2⟩⟩ bu73 hP hD hS (lv_sub hl [0, 1] rfl)
        · refine lv_aload_n hx hb dX8_readMill_21 rfl (lv_at hl 1 rfl) ?_
          refine xc_v (wc := [(o, eMM r mv (.ref fo) u72.1 u72.2.1), ((r 5), aB k 700 tp)]) (wr := [(fo, eMI qf u72.2.2.1), ((qf 11), aI k 6 u72.2.2.2.1), ((qf 12), aI k 5 u72.2.2.2.2.1), ((qf 13), aI k 5 u72.2.2.2.2.2.1), ((qf 14), aI k 4 u72.2.2.2.2.2.2.1), ((qf 15), aI k 20 u72.2.2.2.2.2.2.2.1), ((qf 16), aL k 9 u72.2.2.2.2.2.2.2.2.1), ((qf 17), aI k 9 u72.2.2.2.2.2.2.2.2.2)]) hP hD hS hA [0, 1] [2, 3, 4, 5, 6, 7, 8, 9] rfl rfl rfl (by decide) (xrV ⟨hx, hb, hml, hown, hts⟩ hg (m_X8_next l D k _ o r mv (.ref fo) u72.1 u72.2.1 tp zj (show _ = nI zj from pu72_sz.trans hv1.2.1) hz7 pu72_at) hP hD [0, 1] rfl rfl trivial (ci := 10) (q0 := 0) rfl rfl rfl q1342 q1344 qs40 q93 q1345 xo_X8_next ⟨rfl, rfl⟩ ⟨Nat.le_of_ble_eq_true rfl, Nat.le_of_ble_eq_true rfl⟩ hl.1 (Nat.le_of_ble_eq_true rfl) dX8_readMill_22 ⟨Nat.le_of_ble_eq_true rfl, Nat.le_of_ble_eq_true rfl⟩ rfl) (fun u75 H locs hw hP hD hS hk => ?_)
          have eu75 := hw
          have pu75_at : atz zj u75.1 := by rw [eu75]; exact nx_at (show _ = nI zj from pu72_sz.trans hv1.2.1) hz7 pu72_at
          have q5_u75 : (u72.1 9) = 5 → u75.2.1 = 5 := fun h_ => by rw [eu75]; exact s5_next h_
          have ad_u75 : adv _ u75.1 u75.2.1 := (by rw [eu75]; exact adv_next (I := u72.1) (show _ = nI zj from pu72_sz.trans hv1.2.1) hz7 pu72_at)
          replace hP : va_P D vwCl [(o, eMM r mv (.ref fo) (upd (upd (upd (upd (upd u72.1 8 u75.1) 9 u75.2.1) 10 u75.2.2.1) 11 u75.2.2.2.1) 12 u75.2.2.2.2.1) (vp_updL u72.2.1 15 u75.2.2.2.2.2)), ((r 5), aB k 700 tp), (fo, eMI qf u72.2.2.1), ((qf 11), aI k 6 u72.2.2.2.1), ((qf 12), aI k 5 u72.2.2.2.2.1), ((qf 13), aI k 5 u72.2.2.2.2.2.1), ((qf 14), aI k 4 u72.2.2.2.2.2.2.1), ((qf 15), aI k 20 u72.2.2.2.2.2.2.2.1), ((qf 16), aL k 9 u72.2.2.2.2.2.2.2.2.1), ((qf 17), aI k 9 u72.2.2.2.2.2.2.2.2.2)] H := hP.sub [8, 9, 0, 1, 2, 3, 4, 5, 6, 7] rfl
          replace hD : va_D A [(o, eMM r mv (.ref fo) (upd (upd (upd (upd (upd u72.1 8 u75.1) 9 u75.2.1) 10 u75.2.2.1) 11 u75.2.2.2.1) 12 u75.2.2.2.2.1) (vp_updL u72.2.1 15 u75.2.2.2.2.2)), ((r 5), aB k 700 tp), (fo, eMI qf u72.2.2.1), ((qf 11), aI k 6 u72.2.2.2.1), ((qf 12), aI k 5 u72.2.2.2.2.1), ((qf 13), aI k 5 u72.2.2.2.2.2.1), ((qf 14), aI k 4 u72.2.2.2.2.2.2.1), ((qf 15), aI k 20 u72.2.2.2.2.2.2.2.1), ((qf 16), aL k 9 u72.2.2.2.2.2.2.2.2.1), ((qf 17), aI k 9 u72.2.2.2.2.2.2.2.2.2)] := hD.sub [8, 9, 0, 1, 2, 3, 4, 5, 6, 7] (by decide) rfl
          refine lv_goto (tgt := 2) hx hb dX8_readMill_25 (by decide) ?_
          exact ih1 (u73, upd (upd (upd (upd (upd u72.1 8 u75.1) 9 u75.2.1) 10 u75.2.2.1) 11 u75.2.2.2.1) 12 u75.2.2.2.2.1, vp_updL u72.2.1 15 u75.2.2.2.2.2, u72.2.2.1, u72.2.2.2.1, u72.2.2.2.2.1, u72.2.2.2.2.2.1, u72.2.2.2.2.2.2.1, u72.2.2.2.2.2.2.2.1, u72.2.2.2.2.2.2.2.2.1, u72.2.2.2.2.2.2.2.2.2) _ _ _ (Eq.trans (by (try rw [eu75]); subst eu73; subst eu72; exact Eq.symm (Eq.trans (if_neg c71) (Eq.trans (if_neg c74) (rfl)))) eX1) ⟨pu75_at, pu72_sz.trans hv1.2.1, mInv.imp pu72_mi q5_u75, Or.inl (ml_1 hmore hv1.2.2.2 hv1.1 hz7 pu72_ad ad_u75.1 pu75_at (is_4 (fun h_ => c74 (eu73.trans h_))))⟩ bu73 hP hD hS (lv_sub hl [0, 1] rfl)
  exact loop1 (zj + 3) (1, I, L, J, gpr, gbr, gnx, ghd, gtn, gnm, gse) _ _ _ rfl ⟨hat, hzj, hmI, Or.inl (by have := hat.2; omega)⟩ (Or.inr rfl) hP hD hS (lv_sub hl [0, 1] rfl)
