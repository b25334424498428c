set_option maxRecDepth 100000
def f_X2_next_l202 (I : Nat → Int32) (tp : Nat → Int32) (Y2 : (Int32)) : Nat → ((Int32) × (Int32)) → (Int32) × (Int32)
  | 0, X24 => X24
  | n24 + 1, X24 => let u58 := f_X2_see (upd (upd (upd I 6 Y2) 4 X24.1) 7 X24.2) tp X24.1 X24.1.toNatClampNeg
    let u59 := f_X2_isDigit u58
    if u59 = 0 then
      (X24.1, X24.2)
    else
      if 3 ≤ (X24.1 - Y2) then
        let x62 := (X24.1 + 1)
        f_X2_next_l202 I tp Y2 n24 (x62, X24.2)
      else
        let u63 := f_X2_see (upd (upd (upd I 6 Y2) 4 X24.1) 7 X24.2) tp X24.1 X24.1.toNatClampNeg
        let x64 := (((10 * X24.2) + u63) - 48)
        let x65 := (X24.1 + 1)
        f_X2_next_l202 I tp Y2 n24 (x65, x64)
def f_X2_next_l69 (I : Nat → Int32) (tp : Nat → Int32) (Y2 : (Int32)) : Nat → ((Int32) × (Nat → Int32)) → (Int32) × (Nat → Int32)
  | 0, X66 => X66
  | n66 + 1, X66 => let u107 := f_X2_see (upd (upd I 6 Y2) 4 X66.1) tp X66.1 X66.1.toNatClampNeg
    let u108 := f_X2_isSmall u107
    if u108 = 0 then
      (X66.1, X66.2)
    else
      if 8 ≤ (X66.1 - Y2) then
        let x111 := (X66.1 + 1)
        f_X2_next_l69 I tp Y2 n66 (x111, X66.2)
      else
        let u112 := f_X2_see (upd (upd I 6 Y2) 4 X66.1) tp X66.1 X66.1.toNatClampNeg
        let x113 := (u112.toUInt32 % 65536).toInt32
        let f114 := upd X66.2 (X66.1.toNatClampNeg - Y2.toNatClampNeg) (vp_nar .char x113)
        let x115 := (X66.1 + 1)
        f_X2_next_l69 I tp Y2 n66 (x115, f114)
def f_X2_next_l5 (I : Nat → Int32) (tp : Nat → Int32) : Nat → ((Int32)) → (Int32)
  | 0, X2 => X2
  | n2 + 1, X2 => let u116 := f_X2_see I tp X2 X2.toNatClampNeg
    if u116 = 32 then
      let x118 := X2 + 1
      f_X2_next_l5 I tp n2 x118
    else
      X2
def f_X2_next (I : Nat → Int32) (tp : Nat → Int32) (lf : Nat → Int32) (zj : Nat) : Int32 × Int32 × Int32 × Int32 × (Nat → Int32) × Nat × (Nat → Int32) :=
  let x1 := (I 4)
  let Y2 := f_X2_next_l5 I tp (zj + 1) x1
  let x15 := (Y2 + 1)
  let u16 := f_X2_see (upd (upd I 6 Y2) 4 x15) tp Y2 Y2.toNatClampNeg
  if u16 = (-1) then
    (Y2, 0, Y2, (I 7), lf, 0, (fun _ => 0))
  else
    let u18 := f_X2_isSmall u16
    if u18 = 0 then
      let u20 := f_X2_isDigit u16
      if u20 = 0 then
        if u16 = 59 then
          (x15, u16, Y2, (I 7), lf, 0, (fun _ => 0))
        else
          if u16 = 44 then
            (x15, u16, Y2, (I 7), lf, 0, (fun _ => 0))
          else
            (x15, 1, Y2, (I 7), lf, 0, (fun _ => 0))
      else
        let Y24 := f_X2_next_l202 I tp Y2 (zj + 1) (Y2, 0)
        if (Y24.1 - Y2) ≤ 3 then
          (Y24.1, 3, Y2, Y24.2, lf, 0, (fun _ => 0))
        else
          (Y24.1, 1, Y2, Y24.2, lf, 0, (fun _ => 0))
    else
      let Y66 := f_X2_next_l69 I tp Y2 (zj + 1) (Y2, lf)
      if (Y66.1 - Y2) ≤ 8 then
        let u105 := f_J3_init Y66.2 0 (Y66.1 - Y2) (Y66.1.toNatClampNeg - Y2.toNatClampNeg)
        (Y66.1, 2, Y2, (I 7), Y66.2, (Y66.1.toNatClampNeg - Y2.toNatClampNeg), u105)
      else
        (Y66.1, 1, Y2, (I 7), Y66.2, 0, (fun _ => 0))
abbrev q_X2_next (D : va_G) (k : KK) (o : Nat) (r : Nat → Nat) (w8 : Value) (w9 : Value) (I : Nat → Int32) (tp : Nat → Int32) (lf : Nat → Int32) (zj : Nat) (A : Nat → Prop) : Array Value → State → Outcome → State → Prop := va_Qv (fun (ug : (Int32 × Int32 × Int32 × Int32 × (Nat → Int32) × Nat × (Nat → Int32)) × (Nat) × (Nat) × (Value)) => ug.1 = f_X2_next I tp lf zj ∧ atz zj ug.1.1 ∧ (ug.1.2.1 = 2 → ug.2.2.2 = .ref ug.2.1 ∧ 1 ≤ ug.1.2.2.2.2.2.1 ∧ ug.1.2.2.2.2.2.1 ≤ 8)) (bx D (fun ug => [(o, eRD r ug.2.2.2 w9 (upd (upd (upd (upd I 4 ug.1.1) 5 ug.1.2.1) 6 ug.1.2.2.1) 7 ug.1.2.2.2.1)), ((r 1), aB k 700 tp), ((r 2), aC k 8 ug.1.2.2.2.2.1)] ++ (if ug.1.2.1 = 2 then [(ug.2.1, eSG (fun _ => ug.2.2.1) (fun _ => 0)), (ug.2.2.1, aB k ug.1.2.2.2.2.2.1 ug.1.2.2.2.2.2.2)] else [])) A) A
abbrev rm_X2_next : Room := { frames := 5, cells := 2, slots := 12, locals := 200 }
theorem xo_X2_next : xok yX2_next 0 := by unfold xok; decide +kernel
set_option maxHeartbeats 8000000 in
theorem m_X2_next (l : Launch) (D : va_G) (k : KK) (sz : Nat) (o : Nat) (r : Nat → Nat) (w8 : Value) (w9 : Value) (I : Nat → Int32) (tp : Nat → Int32) (lf : Nat → Int32) (zj : Nat) (hz : cz k) (hzj : I 3 = nI zj) (hz7 : zj ≤ 700) (hend : atz zj (I 4)) : Met l yX2_next (ws_ yX2_next cX2_next 3 none) rm_X2_next (pcx D k [.ref o] sz [(o, eRD r w8 w9 I), ((r 1), aB k 700 tp), ((r 2), aC k 8 lf)] (fun H => oldY k (va_A [(o, eRD r w8 w9 I), ((r 1), aB k 700 tp), ((r 2), aC k 8 lf)] sz) H)) (q_X2_next D k o r w8 w9 I tp lf zj (va_A [(o, eRD r w8 w9 I), ((r 1), aB k 700 tp), ((r 2), aC k 8 lf)] sz)) 2 12 (va_A [(o, eRD r w8 w9 I), ((r 1), aB k 700 tp), ((r 2), aC k 8 lf)] sz) := by
  refine Met.start (Qc := q_X2_next D k o r w8 w9 I tp lf zj) (by decide) (Nat.le_of_ble_eq_true rfl) ?_
  intro p e s m below meth c A hx hb hr hlocks hml hown hin hts hg hP hD hA hAn hS hY hsz ls hl
  have hown : s.vm.findClass RX2 = some m.cls := hown
  have hl : lv_has ls 3 [(0, .ref o)] := hl
  have hO := oldY.mono hY hAn
  refine lv_aload_n hx hb dX2_next_0 rfl (lv_at hl 0 rfl) ?_
  refine va_get (D := D) (ci := 1) (v := .int (I 4)) (C := RX2) (T := TX2) (N := 10) hx hb hts in_X2 hown hg.1 hP 0 rfl rfl 4 (Nat.le_of_ble_eq_true rfl) (hts _ q199) (fun _ h9 => h9) rfl dX2_next_1 ?_
  refine lv_topi (fun x1 ex1 => ?_)
  refine lv_istore_n (lv' := [(1, .int x1), (0, .ref o)]) hx hb dX2_next_4 rfl hl (Nat.le_of_ble_eq_true rfl) rfl (fun ls hl => ?_)
  have Jx2 : ∀ (Y2 : (Int32)) (H : Heap) (locs : List Loc) (ls : Array Slot), Y2 = f_X2_next_l5 I tp (zj + 1) x1 → atz zj Y2 ∧ True → va_P D vwCl [(o, eRD r w8 w9 I), ((r 1), aB k 700 tp), ((r 2), aC k 8 lf)] H → va_D A [(o, eRD r w8 w9 I), ((r 1), aB k 700 tp), ((r 2), aC k 8 lf)] → va_S A s.heap H locs → lv_has ls 3 [(1, .int Y2), (0, .ref o)] → W p l e rm_X2_next s m ([.ref o] : List Value).toArray below meth c H locs 0 0 (MQ below (q_X2_next D k o r w8 w9 I tp lf zj A) ([.ref o] : List Value).toArray s 2 12 A) (F0 m 21 ls []) := by
    intro Y2 H locs ls eY2 hE2 hP hD hS hl
    refine lv_aload_n hx hb dX2_next_21 rfl (lv_at hl 1 rfl) ?_
    refine lv_iload_n hx hb dX2_next_22 rfl (lv_at hl 0 rfl) ?_
    refine va_put (D := D) (ci := 1) (v := .int Y2) (C := RX2) (T := TX2) (N := 10) hx hb hts in_X2 tyX2 tyX2_ok nmX2 hown hg.1 hP hD hS 0 rfl rfl 6 (Nat.le_of_ble_eq_true rfl) (hts _ q201) (fun _ h9 => h9) rfl ftX2_6 rfl rfl (Nat.le_of_ble_eq_true rfl) dX2_next_23 (fun H locs hP hD hS => ?_)
    replace hP : va_P D vwCl [(o, eRD r w8 w9 (upd I 6 Y2)), ((r 1), aB k 700 tp), ((r 2), aC k 8 lf)] H := hP
    replace hD : va_D A [(o, eRD r w8 w9 (upd I 6 Y2)), ((r 1), aB k 700 tp), ((r 2), aC k 8 lf)] := hD
    refine lv_aload_n hx hb dX2_next_26 rfl (lv_at hl 1 rfl) ?_
    refine lv_iload_n hx hb dX2_next_27 rfl (lv_at hl 0 rfl) ?_
    refine lv_iconst (v := 1) hx hb dX2_next_28 ci_1 ?_
    refine lv_iadd hx hb dX2_next_29 ?_
    refine lv_topi (fun x15 ex15 => ?_)
    refine va_put (D := D) (ci := 1) (v := .int x15) (C := RX2) (T := TX2) (N := 10) hx hb hts in_X2 tyX2 tyX2_ok nmX2 hown hg.1 hP hD hS 0 rfl rfl 4 (Nat.le_of_ble_eq_true rfl) (hts _ q199) (fun _ h9 => h9) rfl ftX2_4 rfl rfl (Nat.le_of_ble_eq_true rfl) dX2_next_30 (fun H locs hP hD hS => ?_)
    replace hP : va_P D vwCl [(o, eRD r w8 w9 (upd (upd I 6 Y2) 4 x15)), ((r 1), aB k 700 tp), ((r 2), aC k 8 lf)] H := hP
    replace hD : va_D A [(o, eRD r w8 w9 (upd (upd I 6 Y2) 4 x15)), ((r 1), aB k 700 tp), ((r 2), aC k 8 lf)] := hD
    refine lv_aload_n hx hb dX2_next_33 rfl (lv_at hl 1 rfl) ?_
    refine lv_iload_n hx hb dX2_next_34 rfl (lv_at hl 0 rfl) ?_
    refine xc_i (wc := [(o, eRD r w8 w9 (upd (upd I 6 Y2) 4 x15)), ((r 1), aB k 700 tp)]) (wr := [((r 2), aC k 8 lf)]) hP hD hS hA [0, 1] [2] rfl rfl rfl (by decide) (xrV ⟨hx, hb, hml, hown, hts⟩ hg (m_X2_see l D k _ o r w8 w9 (upd (upd I 6 Y2) 4 x15) tp Y2 Y2.toNatClampNeg zj hE2.1.1 (by have := hE2.1.2; omega) hzj hz7) hP hD [0, 1] rfl rfl trivial (ci := 1) (q0 := 0) rfl rfl rfl q571 q573 qs5 q84 q574 xo_X2_see ⟨rfl, rfl⟩ ⟨Nat.le_of_ble_eq_true rfl, Nat.le_of_ble_eq_true rfl⟩ hl.1 (Nat.le_of_ble_eq_true rfl) dX2_next_35 ⟨Nat.le_of_ble_eq_true rfl, Nat.le_of_ble_eq_true rfl⟩ rfl) (fun u16 r_ H locs hw hP hD hS hk => ?_)
    obtain ⟨rfl, eu16⟩ := hw
    replace hP : va_P D vwCl [(o, eRD r w8 w9 (upd (upd I 6 Y2) 4 x15)), ((r 1), aB k 700 tp), ((r 2), aC k 8 lf)] H := hP.sub [1, 2, 0] rfl
    replace hD : va_D A [(o, eRD r w8 w9 (upd (upd I 6 Y2) 4 x15)), ((r 1), aB k 700 tp), ((r 2), aC k 8 lf)] := hD.sub [1, 2, 0] (by decide) rfl
    refine lv_istore_n (lv' := [(2, .int u16), (1, .int Y2), (0, .ref o)]) hx hb dX2_next_38 rfl hl (Nat.le_of_ble_eq_true rfl) rfl (fun ls hl => ?_)
    refine lv_iload_n hx hb dX2_next_39 rfl (lv_at hl 0 rfl) ?_
    refine lv_iconst (v := (-1)) hx hb dX2_next_40 ci_m1 ?_
    refine lv_icmp_ne (tgt := 57) hx hb dX2_next_41 (by decide) (fun c17 => ?_) (fun c17 => ?_)
    · refine lv_iload_n hx hb dX2_next_57 rfl (lv_at hl 0 rfl) ?_
      refine xc_i (wc := []) (wr := [(o, eRD r w8 w9 (upd (upd I 6 Y2) 4 x15)), ((r 1), aB k 700 tp), ((r 2), aC k 8 lf)]) hP hD hS hA [] [0, 1, 2] rfl rfl rfl (by decide) (xrS ⟨hx, hb, hml, hown, hts⟩ hg (m_X2_isSmall l D k _ u16) hP hD [] rfl rfl trivial q575 q576 q84 q577 xo_X2_isSmall ⟨rfl, rfl⟩ ⟨Nat.le_of_ble_eq_true rfl, Nat.le_of_ble_eq_true rfl⟩ hl.1 (Nat.le_of_ble_eq_true rfl) dX2_next_58 ⟨Nat.le_of_ble_eq_true rfl, Nat.le_of_ble_eq_true rfl⟩ rfl) (fun u18 r_ H locs hw hP hD hS hk => ?_)
      obtain ⟨rfl, eu18, bu18⟩ := hw
      replace hP : va_P D vwCl [(o, eRD r w8 w9 (upd (upd I 6 Y2) 4 x15)), ((r 1), aB k 700 tp), ((r 2), aC k 8 lf)] H := hP.sub [0, 1, 2] rfl
      replace hD : va_D A [(o, eRD r w8 w9 (upd (upd I 6 Y2) 4 x15)), ((r 1), aB k 700 tp), ((r 2), aC k 8 lf)] := hD.sub [0, 1, 2] (by decide) rfl
      refine lv_if_eq (tgt := 185) hx hb dX2_next_61 (by decide) (fun c19 => ?_) (fun c19 => ?_)
      · refine lv_iload_n hx hb dX2_next_185 rfl (lv_at hl 0 rfl) ?_
        refine xc_i (wc := []) (wr := [(o, eRD r w8 w9 (upd (upd I 6 Y2) 4 x15)), ((r 1), aB k 700 tp), ((r 2), aC k 8 lf)]) hP hD hS hA [] [0, 1, 2] rfl rfl rfl (by decide) (xrS ⟨hx, hb, hml, hown, hts⟩ hg (m_X2_isDigit l D k _ u16) hP hD [] rfl rfl trivial q658 q659 q84 q660 xo_X2_isDigit ⟨rfl, rfl⟩ ⟨Nat.le_of_ble_eq_true rfl, Nat.le_of_ble_eq_true rfl⟩ hl.1 (Nat.le_of_ble_eq_true rfl) dX2_next_186 ⟨Nat.le_of_ble_eq_true rfl, Nat.le_of_ble_eq_true rfl⟩ rfl) (fun u20 r_ H locs hw hP hD hS hk => ?_)
        obtain ⟨rfl, eu20, bu20⟩ := hw
        replace hP : va_P D vwCl [(o, eRD r w8 w9 (upd (upd I 6 Y2) 4 x15)), ((r 1), aB k 700 tp), ((r 2), aC k 8 lf)] H := hP.sub [0, 1, 2] rfl
        replace hD : va_D A [(o, eRD r w8 w9 (upd (upd I 6 Y2) 4 x15)), ((r 1), aB k 700 tp), ((r 2), aC k 8 lf)] := hD.sub [0, 1, 2] (by decide) rfl
        refine lv_if_eq (tgt := 284) hx hb dX2_next_189 (by decide) (fun c21 => ?_) (fun c21 => ?_)
        · have hlt := se_in (fun h => c17 (eu16.trans h)) hE2.1.1 hzj (by have := hE2.1.2; omega)
          refine lv_aload_n hx hb dX2_next_284 rfl (lv_at hl 2 rfl) ?_
          refine lv_iload_n hx hb dX2_next_285 rfl (lv_at hl 0 rfl) ?_
          refine lv_bipush (v := 59) hx hb dX2_next_286 cb_59 ?_
          refine lv_icmp_eq (tgt := 297) hx hb dX2_next_288 (by decide) (fun c22 => ?_) (fun c22 => ?_)
          · refine lv_iload_n hx hb dX2_next_297 rfl (lv_at hl 0 rfl) ?_
            refine lv_goto (tgt := 302) hx hb dX2_next_298 (by decide) ?_
            refine va_put (D := D) (ci := 1) (v := .int u16) (C := RX2) (T := TX2) (N := 10) hx hb hts in_X2 tyX2 tyX2_ok nmX2 hown hg.1 hP hD hS 0 rfl rfl 5 (Nat.le_of_ble_eq_true rfl) (hts _ q200) (fun _ h9 => h9) rfl ftX2_5 rfl rfl (Nat.le_of_ble_eq_true rfl) dX2_next_302 (fun H locs hP hD hS => ?_)
            replace hP : va_P D vwCl [(o, eRD r w8 w9 (upd (upd (upd I 6 Y2) 4 x15) 5 u16)), ((r 1), aB k 700 tp), ((r 2), aC k 8 lf)] H := hP
            replace hD : va_D A [(o, eRD r w8 w9 (upd (upd (upd I 6 Y2) 4 x15) 5 u16)), ((r 1), aB k 700 tp), ((r 2), aC k 8 lf)] := hD
            exact xret_v hx hb hr hlocks (by omega) (by omega) hS.2.2 dX2_next_305 (fun t ht => ⟨⟨((x15, u16, Y2, (I 7), lf, 0, (fun _ => 0)), 0, 0, w8), rfl, ⟨(by subst eu20; subst eu18; subst eu16; subst ex15; subst eY2; subst ex1; exact Eq.symm (Eq.trans (if_neg c17) (Eq.trans (if_pos c19) (Eq.trans (if_pos c21) (Eq.trans (if_pos c22) (rfl)))))), (by rw [ex15]; exact hE2.1.up hlt hz7), (fun h_ => absurd h_ (by show ¬ (u16 : Int32) = 2; rw [c22]; decide))⟩, by rw [ht]; exact optN (by show ¬ (u16 : Int32) = 2; rw [c22]; decide) hP, optDN (by show ¬ (u16 : Int32) = 2; rw [c22]; decide) hD⟩, hS.F ht⟩)
          · refine lv_iload_n hx hb dX2_next_291 rfl (lv_at hl 0 rfl) ?_
            refine lv_bipush (v := 44) hx hb dX2_next_292 cb_44 ?_
            refine lv_icmp_ne (tgt := 301) hx hb dX2_next_294 (by decide) (fun c23 => ?_) (fun c23 => ?_)
            · refine lv_iconst (v := 1) hx hb dX2_next_301 ci_1 ?_
              refine va_put (D := D) (ci := 1) (v := .int 1) (C := RX2) (T := TX2) (N := 10) hx hb hts in_X2 tyX2 tyX2_ok nmX2 hown hg.1 hP hD hS 0 rfl rfl 5 (Nat.le_of_ble_eq_true rfl) (hts _ q200) (fun _ h9 => h9) rfl ftX2_5 rfl rfl (Nat.le_of_ble_eq_true rfl) dX2_next_302 (fun H locs hP hD hS => ?_)
              replace hP : va_P D vwCl [(o, eRD r w8 w9 (upd (upd (upd I 6 Y2) 4 x15) 5 1)), ((r 1), aB k 700 tp), ((r 2), aC k 8 lf)] H := hP
              replace hD : va_D A [(o, eRD r w8 w9 (upd (upd (upd I 6 Y2) 4 x15) 5 1)), ((r 1), aB k 700 tp), ((r 2), aC k 8 lf)] := hD
              exact xret_v hx hb hr hlocks (by omega) (by omega) hS.2.2 dX2_next_305 (fun t ht => ⟨⟨((x15, 1, Y2, (I 7), lf, 0, (fun _ => 0)), 0, 0, w8), rfl, ⟨(by subst eu20; subst eu18; subst eu16; subst ex15; subst eY2; subst ex1; exact Eq.symm (Eq.trans (if_neg c17) (Eq.trans (if_pos c19) (Eq.trans (if_pos c21) (Eq.trans (if_neg c22) (Eq.trans (if_neg c23) (rfl))))))), (by rw [ex15]; exact hE2.1.up hlt hz7), (fun h_ => absurd h_ (show ¬ (1 : Int32) = 2 by decide))⟩, by rw [ht]; exact optN (show ¬ (1 : Int32) = 2 by decide) hP, optDN (show ¬ (1 : Int32) = 2 by decide) hD⟩, hS.F ht⟩)
            · refine lv_iload_n hx hb dX2_next_297 rfl (lv_at hl 0 rfl) ?_
              refine lv_goto (tgt := 302) hx hb dX2_next_298 (by decide) ?_
              refine va_put (D := D) (ci := 1) (v := .int u16) (C := RX2) (T := TX2) (N := 10) hx hb hts in_X2 tyX2 tyX2_ok nmX2 hown hg.1 hP hD hS 0 rfl rfl 5 (Nat.le_of_ble_eq_true rfl) (hts _ q200) (fun _ h9 => h9) rfl ftX2_5 rfl rfl (Nat.le_of_ble_eq_true rfl) dX2_next_302 (fun H locs hP hD hS => ?_)
              replace hP : va_P D vwCl [(o, eRD r w8 w9 (upd (upd (upd I 6 Y2) 4 x15) 5 u16)), ((r 1), aB k 700 tp), ((r 2), aC k 8 lf)] H := hP
              replace hD : va_D A [(o, eRD r w8 w9 (upd (upd (upd I 6 Y2) 4 x15) 5 u16)), ((r 1), aB k 700 tp), ((r 2), aC k 8 lf)] := hD
              exact xret_v hx hb hr hlocks (by omega) (by omega) hS.2.2 dX2_next_305 (fun t ht => ⟨⟨((x15, u16, Y2, (I 7), lf, 0, (fun _ => 0)), 0, 0, w8), rfl, ⟨(by subst eu20; subst eu18; subst eu16; subst ex15; subst eY2; subst ex1; exact Eq.symm (Eq.trans (if_neg c17) (Eq.trans (if_pos c19) (Eq.trans (if_pos c21) (Eq.trans (if_neg c22) (Eq.trans (if_pos c23) (rfl))))))), (by rw [ex15]; exact hE2.1.up hlt hz7), (fun h_ => absurd h_ (by show ¬ (u16 : Int32) = 2; rw [c23]; decide))⟩, by rw [ht]; exact optN (by show ¬ (u16 : Int32) = 2; rw [c23]; decide) hP, optDN (by show ¬ (u16 : Int32) = 2; rw [c23]; decide) hD⟩, hS.F ht⟩)
        · refine lv_aload_n hx hb dX2_next_192 rfl (lv_at hl 2 rfl) ?_
          refine lv_iconst (v := 0) hx hb dX2_next_193 ci_0 ?_
          refine va_put (D := D) (ci := 1) (v := .int 0) (C := RX2) (T := TX2) (N := 10) hx hb hts in_X2 tyX2 tyX2_ok nmX2 hown hg.1 hP hD hS 0 rfl rfl 7 (Nat.le_of_ble_eq_true rfl) (hts _ q202) (fun _ h9 => h9) rfl ftX2_7 rfl rfl (Nat.le_of_ble_eq_true rfl) dX2_next_194 (fun H locs hP hD hS => ?_)
          replace hP : va_P D vwCl [(o, eRD r w8 w9 (upd (upd (upd I 6 Y2) 4 x15) 7 0)), ((r 1), aB k 700 tp), ((r 2), aC k 8 lf)] H := hP
          replace hD : va_D A [(o, eRD r w8 w9 (upd (upd (upd I 6 Y2) 4 x15) 7 0)), ((r 1), aB k 700 tp), ((r 2), aC k 8 lf)] := hD
          refine lv_aload_n hx hb dX2_next_197 rfl (lv_at hl 2 rfl) ?_
          refine lv_iload_n hx hb dX2_next_198 rfl (lv_at hl 1 rfl) ?_
          refine va_put (D := D) (ci := 1) (v := .int Y2) (C := RX2) (T := TX2) (N := 10) hx hb hts in_X2 tyX2 tyX2_ok nmX2 hown hg.1 hP hD hS 0 rfl rfl 4 (Nat.le_of_ble_eq_true rfl) (hts _ q199) (fun _ h9 => h9) rfl ftX2_4 rfl rfl (Nat.le_of_ble_eq_true rfl) dX2_next_199 (fun H locs hP hD hS => ?_)
          replace hP : va_P D vwCl [(o, eRD r w8 w9 (upd (upd (upd I 6 Y2) 7 0) 4 Y2)), ((r 1), aB k 700 tp), ((r 2), aC k 8 lf)] H := hP
          replace hD : va_D A [(o, eRD r w8 w9 (upd (upd (upd I 6 Y2) 7 0) 4 Y2)), ((r 1), aB k 700 tp), ((r 2), aC k 8 lf)] := hD
          have Jx24 : ∀ (Y24 : (Int32) × (Int32)) (H : Heap) (locs : List Loc) (ls : Array Slot), Y24 = f_X2_next_l202 I tp Y2 (zj + 1) (Y2, 0) → atz zj Y24.1 ∧ Y2.toNatClampNeg ≤ Y24.1.toNatClampNeg → va_P D vwCl [(o, eRD r w8 w9 (upd (upd (upd I 6 Y2) 4 Y24.1) 7 Y24.2)), ((r 1), aB k 700 tp), ((r 2), aC k 8 lf)] H → va_D A [(o, eRD r w8 w9 (upd (upd (upd I 6 Y2) 4 Y24.1) 7 Y24.2)), ((r 1), aB k 700 tp), ((r 2), aC k 8 lf)] → va_S A s.heap H locs → lv_has ls 3 [(2, .int u16), (1, .int Y2), (0, .ref o)] → W p l e rm_X2_next s m ([.ref o] : List Value).toArray below meth c H locs 0 0 (MQ below (q_X2_next D k o r w8 w9 I tp lf zj A) ([.ref o] : List Value).toArray s 2 12 A) (F0 m 262 ls []) := by
            intro Y24 H locs ls eY24 hE24 hP hD hS hl
            have hke := hE24.2
            refine lv_aload_n hx hb dX2_next_262 rfl (lv_at hl 2 rfl) ?_
            refine lv_aload_n hx hb dX2_next_263 rfl (lv_at hl 2 rfl) ?_
            refine va_get (D := D) (ci := 1) (v := .int Y24.1) (C := RX2) (T := TX2) (N := 10) hx hb hts in_X2 hown hg.1 hP 0 rfl rfl 4 (Nat.le_of_ble_eq_true rfl) (hts _ q199) (fun _ h9 => h9) rfl dX2_next_264 ?_
            refine lv_iload_n hx hb dX2_next_267 rfl (lv_at hl 1 rfl) ?_
            refine lv_isub hx hb dX2_next_268 ?_
            refine lv_iconst (v := 3) hx hb dX2_next_269 ci_3 ?_
            refine lv_icmp_le (tgt := 277) hx hb dX2_next_270 (by decide) (fun c57 => ?_) (fun c57 => ?_)
            · refine lv_iconst (v := 3) hx hb dX2_next_277 ci_3 ?_
              refine va_put (D := D) (ci := 1) (v := .int 3) (C := RX2) (T := TX2) (N := 10) hx hb hts in_X2 tyX2 tyX2_ok nmX2 hown hg.1 hP hD hS 0 rfl rfl 5 (Nat.le_of_ble_eq_true rfl) (hts _ q200) (fun _ h9 => h9) rfl ftX2_5 rfl rfl (Nat.le_of_ble_eq_true rfl) dX2_next_278 (fun H locs hP hD hS => ?_)
              replace hP : va_P D vwCl [(o, eRD r w8 w9 (upd (upd (upd (upd I 6 Y2) 4 Y24.1) 7 Y24.2) 5 3)), ((r 1), aB k 700 tp), ((r 2), aC k 8 lf)] H := hP
              replace hD : va_D A [(o, eRD r w8 w9 (upd (upd (upd (upd I 6 Y2) 4 Y24.1) 7 Y24.2) 5 3)), ((r 1), aB k 700 tp), ((r 2), aC k 8 lf)] := hD
              refine lv_goto (tgt := 305) hx hb dX2_next_281 (by decide) ?_
              exact xret_v hx hb hr hlocks (by omega) (by omega) hS.2.2 dX2_next_305 (fun t ht => ⟨⟨((Y24.1, 3, Y2, Y24.2, lf, 0, (fun _ => 0)), 0, 0, w8), rfl, ⟨(by subst eY24; subst eu20; subst eu18; subst eu16; subst ex15; subst eY2; subst ex1; exact Eq.symm (Eq.trans (if_neg c17) (Eq.trans (if_pos c19) (Eq.trans (if_neg c21) (Eq.trans (if_pos c57) (rfl)))))), hE24.1, (fun h_ => absurd h_ (show ¬ (3 : Int32) = 2 by decide))⟩, by rw [ht]; exact optN (show ¬ (3 : Int32) = 2 by decide) hP, optDN (show ¬ (3 : Int32) = 2 by decide) hD⟩, hS.F ht⟩)
            · refine lv_iconst (v := 1) hx hb dX2_next_273 ci_1 ?_
              refine lv_goto (tgt := 278) hx hb dX2_next_274 (by decide) ?_
              refine va_put (D := D) (ci := 1) (v := .int 1) (C := RX2) (T := TX2) (N := 10) hx hb hts in_X2 tyX2 tyX2_ok nmX2 hown hg.1 hP hD hS 0 rfl rfl 5 (Nat.le_of_ble_eq_true rfl) (hts _ q200) (fun _ h9 => h9) rfl ftX2_5 rfl rfl (Nat.le_of_ble_eq_true rfl) dX2_next_278 (fun H locs hP hD hS => ?_)
              replace hP : va_P D vwCl [(o, eRD r w8 w9 (upd (upd (upd (upd I 6 Y2) 4 Y24.1) 7 Y24.2) 5 1)), ((r 1), aB k 700 tp), ((r 2), aC k 8 lf)] H := hP
              replace hD : va_D A [(o, eRD r w8 w9 (upd (upd (upd (upd I 6 Y2) 4 Y24.1) 7 Y24.2) 5 1)), ((r 1), aB k 700 tp), ((r 2), aC k 8 lf)] := hD
              refine lv_goto (tgt := 305) hx hb dX2_next_281 (by decide) ?_
              exact xret_v hx hb hr hlocks (by omega) (by omega) hS.2.2 dX2_next_305 (fun t ht => ⟨⟨((Y24.1, 1, Y2, Y24.2, lf, 0, (fun _ => 0)), 0, 0, w8), rfl, ⟨(by subst eY24; subst eu20; subst eu18; subst eu16; subst ex15; subst eY2; subst ex1; exact Eq.symm (Eq.trans (if_neg c17) (Eq.trans (if_pos c19) (Eq.trans (if_neg c21) (Eq.trans (if_neg c57) (rfl)))))), hE24.1, (fun h_ => absurd h_ (show ¬ (1 : Int32) = 2 by decide))⟩, by rw [ht]; exact optN (show ¬ (1 : Int32) = 2 by decide) hP, optDN (show ¬ (1 : Int32) = 2 by decide) hD⟩, hS.F ht⟩)
          have loop24 : ∀ (n24 : Nat) (X24 : (Int32) × (Int32)) (H : Heap) (locs : List Loc) (ls : Array Slot), f_X2_next_l202 I tp Y2 n24 X24 = f_X2_next_l202 I tp Y2 (zj + 1) (Y2, 0) → (atz zj X24.1 ∧ zj - X24.1.toNatClampNeg < n24 ∧ Y2.toNatClampNeg ≤ X24.1.toNatClampNeg) → va_P D vwCl [(o, eRD r w8 w9 (upd (upd (upd I 6 Y2) 4 X24.1) 7 X24.2)), ((r 1), aB k 700 tp), ((r 2), aC k 8 lf)] H → va_D A [(o, eRD r w8 w9 (upd (upd (upd I 6 Y2) 4 X24.1) 7 X24.2)), ((r 1), aB k 700 tp), ((r 2), aC k 8 lf)] → va_S A s.heap H locs → lv_has ls 3 [(2, .int u16), (1, .int Y2), (0, .ref o)] → W p l e rm_X2_next s m ([.ref o] : List Value).toArray below meth c H locs 0 0 (MQ below (q_X2_next D k o r w8 w9 I tp lf zj A) ([.ref o] : List Value).toArray s 2 12 A) (F0 m 202 ls []) := by
            intro n24
            induction n24 with
            | zero => intro X24 H locs ls eX24 hv24; exact absurd (by have h_ := hv24.2.1; omega) (fun h => h)
            | succ n24 ih24 =>
              intro X24 H locs ls eX24 hv24 hP hD hS hl
              refine lv_aload_n hx hb dX2_next_202 rfl (lv_at hl 2 rfl) ?_
              refine lv_aload_n hx hb dX2_next_203 rfl (lv_at hl 2 rfl) ?_
              refine va_get (D := D) (ci := 1) (v := .int X24.1) (C := RX2) (T := TX2) (N := 10) hx hb hts in_X2 hown hg.1 hP 0 rfl rfl 4 (Nat.le_of_ble_eq_true rfl) (hts _ q199) (fun _ h9 => h9) rfl dX2_next_204 ?_
              refine xc_i (wc := [(o, eRD r w8 w9 (upd (upd (upd I 6 Y2) 4 X24.1) 7 X24.2)), ((r 1), aB k 700 tp)]) (wr := [((r 2), aC k 8 lf)]) hP hD hS hA [0, 1] [2] rfl rfl rfl (by decide) (xrV ⟨hx, hb, hml, hown, hts⟩ hg (m_X2_see l D k _ o r w8 w9 (upd (upd (upd I 6 Y2) 4 X24.1) 7 X24.2) tp X24.1 X24.1.toNatClampNeg zj hv24.1.1 (by have := hv24.1.2; omega) hzj hz7) hP hD [0, 1] rfl rfl trivial (ci := 1) (q0 := 0) rfl rfl rfl q571 q573 qs5 q84 q574 xo_X2_see ⟨rfl, rfl⟩ ⟨Nat.le_of_ble_eq_true rfl, Nat.le_of_ble_eq_true rfl⟩ hl.1 (Nat.le_of_ble_eq_true rfl) dX2_next_207 ⟨Nat.le_of_ble_eq_true rfl, Nat.le_of_ble_eq_true rfl⟩ rfl) (fun u58 r_ H locs hw hP hD hS hk => ?_)
              obtain ⟨rfl, eu58⟩ := hw
              replace hP : va_P D vwCl [(o, eRD r w8 w9 (upd (upd (upd I 6 Y2) 4 X24.1) 7 X24.2)), ((r 1), aB k 700 tp), ((r 2), aC k 8 lf)] H := hP.sub [1, 2, 0] rfl
              replace hD : va_D A [(o, eRD r w8 w9 (upd (upd (upd I 6 Y2) 4 X24.1) 7 X24.2)), ((r 1), aB k 700 tp), ((r 2), aC k 8 lf)] := hD.sub [1, 2, 0] (by decide) rfl
              refine xc_i (wc := []) (wr := [(o, eRD r w8 w9 (upd (upd (upd I 6 Y2) 4 X24.1) 7 X24.2)), ((r 1), aB k 700 tp), ((r 2), aC k 8 lf)]) hP hD hS hA [] [0, 1, 2] rfl rfl rfl (by decide) (xrS ⟨hx, hb, hml, hown, hts⟩ hg (m_X2_isDigit l D k _ u58) hP hD [] rfl rfl trivial q658 q659 q84 q660 xo_X2_isDigit ⟨rfl, rfl⟩ ⟨Nat.le_of_ble_eq_true rfl, Nat.le_of_ble_eq_true rfl⟩ hl.1 (Nat.le_of_ble_eq_true rfl) dX2_next_210 ⟨Nat.le_of_ble_eq_true rfl, Nat.le_of_ble_eq_true rfl⟩ rfl) (fun u59 r_ H locs hw hP hD hS hk => ?_)
              obtain ⟨rfl, eu59, bu59⟩ := hw
              replace hP : va_P D vwCl [(o, eRD r w8 w9 (upd (upd (upd I 6 Y2) 4 X24.1) 7 X24.2)), ((r 1), aB k 700 tp), ((r 2), aC k 8 lf)] H := hP.sub [0, 1, 2] rfl
              replace hD : va_D A [(o, eRD r w8 w9 (upd (upd (upd I 6 Y2) 4 X24.1) 7 X24.2)), ((r 1), aB k 700 tp), ((r 2), aC k 8 lf)] := hD.sub [0, 1, 2] (by decide) rfl
              refine lv_if_eq (tgt := 262) hx hb dX2_next_213 (by decide) (fun c60 => ?_) (fun c60 => ?_)
              · exact Jx24 (X24.1, X24.2) _ _ _ (Eq.trans (by subst eu59; subst eu58; exact Eq.symm (Eq.trans (if_pos c60) (rfl))) eX24) ⟨hv24.1, hv24.2.2⟩ hP hD hS (lv_sub hl [0, 1, 2] rfl)
              · have hlt := se_in (fun h => dg_ne (fun h2 => c60 (eu59.trans h2)) (eu58.trans h)) hv24.1.1 hzj (by have := hv24.1.2; omega)
                have hke := hv24.2.2
                refine lv_aload_n hx hb dX2_next_216 rfl (lv_at hl 2 rfl) ?_
                refine va_get (D := D) (ci := 1) (v := .int X24.1) (C := RX2) (T := TX2) (N := 10) hx hb hts in_X2 hown hg.1 hP 0 rfl rfl 4 (Nat.le_of_ble_eq_true rfl) (hts _ q199) (fun _ h9 => h9) rfl dX2_next_217 ?_
                refine lv_iload_n hx hb dX2_next_220 rfl (lv_at hl 1 rfl) ?_
                refine lv_isub hx hb dX2_next_221 ?_
                refine lv_iconst (v := 3) hx hb dX2_next_222 ci_3 ?_
                refine lv_icmp_ge (tgt := 249) hx hb dX2_next_223 (by decide) (fun c61 => ?_) (fun c61 => ?_)
                · refine lv_aload_n hx hb dX2_next_249 rfl (lv_at hl 2 rfl) ?_
                  refine lv_dup hx hb dX2_next_250 rfl ?_
                  refine va_get (D := D) (ci := 1) (v := .int X24.1) (C := RX2) (T := TX2) (N := 10) hx hb hts in_X2 hown hg.1 hP 0 rfl rfl 4 (Nat.le_of_ble_eq_true rfl) (hts _ q199) (fun _ h9 => h9) rfl dX2_next_251 ?_
                  refine lv_iconst (v := 1) hx hb dX2_next_254 ci_1 ?_
                  refine lv_iadd hx hb dX2_next_255 ?_
                  refine lv_topi (fun x62 ex62 => ?_)
                  refine va_put (D := D) (ci := 1) (v := .int x62) (C := RX2) (T := TX2) (N := 10) hx hb hts in_X2 tyX2 tyX2_ok nmX2 hown hg.1 hP hD hS 0 rfl rfl 4 (Nat.le_of_ble_eq_true rfl) (hts _ q199) (fun _ h9 => h9) rfl ftX2_4 rfl rfl (Nat.le_of_ble_eq_true rfl) dX2_next_256 (fun H locs hP hD hS => ?_)
                  replace hP : va_P D vwCl [(o, eRD r w8 w9 (upd (upd (upd I 6 Y2) 7 X24.2) 4 x62)), ((r 1), aB k 700 tp), ((r 2), aC k 8 lf)] H := hP
                  replace hD : va_D A [(o, eRD r w8 w9 (upd (upd (upd I 6 Y2) 7 X24.2) 4 x62)), ((r 1), aB k 700 tp), ((r 2), aC k 8 lf)] := hD
                  refine lv_goto (tgt := 202) hx hb dX2_next_259 (by decide) ?_
                  exact ih24 (x62, X24.2) _ _ _ (Eq.trans (by subst ex62; subst eu59; subst eu58; exact Eq.symm (Eq.trans (if_neg c60) (Eq.trans (if_pos c61) (rfl)))) eX24) (by show atz zj x62 ∧ zj - (x62).toNatClampNeg < n24 ∧ Y2.toNatClampNeg ≤ (x62).toNatClampNeg; rw [ex62]; exact rd_st hv24.1 hv24.2.1 hv24.2.2 hlt hz7) hP hD hS (lv_sub hl [0, 1, 2] rfl)
                · refine lv_aload_n hx hb dX2_next_226 rfl (lv_at hl 2 rfl) ?_
                  refine lv_bipush (v := 10) hx hb dX2_next_227 cb_10 ?_
                  refine lv_aload_n hx hb dX2_next_229 rfl (lv_at hl 2 rfl) ?_
                  refine va_get (D := D) (ci := 1) (v := .int X24.2) (C := RX2) (T := TX2) (N := 10) hx hb hts in_X2 hown hg.1 hP 0 rfl rfl 7 (Nat.le_of_ble_eq_true rfl) (hts _ q202) (fun _ h9 => h9) rfl dX2_next_230 ?_
                  refine lv_imul hx hb dX2_next_233 ?_
                  refine lv_aload_n hx hb dX2_next_234 rfl (lv_at hl 2 rfl) ?_
                  refine lv_aload_n hx hb dX2_next_235 rfl (lv_at hl 2 rfl) ?_
                  refine va_get (D := D) (ci := 1) (v := .int X24.1) (C := RX2) (T := TX2) (N := 10) hx hb hts in_X2 hown hg.1 hP 0 rfl rfl 4 (Nat.le_of_ble_eq_true rfl) (hts _ q199) (fun _ h9 => h9) rfl dX2_next_236 ?_
                  refine xc_i (wc := [(o, eRD r w8 w9 (upd (upd (upd I 6 Y2) 4 X24.1) 7 X24.2)), ((r 1), aB k 700 tp)]) (wr := [((r 2), aC k 8 lf)]) hP hD hS hA [0, 1] [2] rfl rfl rfl (by decide) (xrV ⟨hx, hb, hml, hown, hts⟩ hg (m_X2_see l D k _ o r w8 w9 (upd (upd (upd I 6 Y2) 4 X24.1) 7 X24.2) tp X24.1 X24.1.toNatClampNeg zj hv24.1.1 (by have := hv24.1.2; omega) hzj hz7) hP hD [0, 1] rfl rfl trivial (ci := 1) (q0 := 0) rfl rfl rfl q571 q573 qs5 q84 q574 xo_X2_see ⟨rfl, rfl⟩ ⟨Nat.le_of_ble_eq_true rfl, Nat.le_of_ble_eq_true rfl⟩ hl.1 (Nat.le_of_ble_eq_true rfl) dX2_next_239 ⟨Nat.le_of_ble_eq_true rfl, Nat.le_of_ble_eq_true rfl⟩ rfl) (fun u63 r_ H locs hw hP hD hS hk => ?_)
                  obtain ⟨rfl, eu63⟩ := hw
                  replace hP : va_P D vwCl [(o, eRD r w8 w9 (upd (upd (upd I 6 Y2) 4 X24.1) 7 X24.2)), ((r 1), aB k 700 tp), ((r 2), aC k 8 lf)] H := hP.sub [1, 2, 0] rfl
                  replace hD : va_D A [(o, eRD r w8 w9 (upd (upd (upd I 6 Y2) 4 X24.1) 7 X24.2)), ((r 1), aB k 700 tp), ((r 2), aC k 8 lf)] := hD.sub [1, 2, 0] (by decide) rfl
                  refine lv_iadd hx hb dX2_next_242 ?_
                  refine lv_bipush (v := 48) hx hb dX2_next_243 cb_48 ?_
                  refine lv_isub hx hb dX2_next_245 ?_
                  refine lv_topi (fun x64 ex64 => ?_)
                  refine va_put (D := D) (ci := 1) (v := .int x64) (C := RX2) (T := TX2) (N := 10) hx hb hts in_X2 tyX2 tyX2_ok nmX2 hown hg.1 hP hD hS 0 rfl rfl 7 (Nat.le_of_ble_eq_true rfl) (hts _ q202) (fun _ h9 => h9) rfl ftX2_7 rfl rfl (Nat.le_of_ble_eq_true rfl) dX2_next_246 (fun H locs hP hD hS => ?_)
                  replace hP : va_P D vwCl [(o, eRD r w8 w9 (upd (upd (upd I 6 Y2) 4 X24.1) 7 x64)), ((r 1), aB k 700 tp), ((r 2), aC k 8 lf)] H := hP
                  replace hD : va_D A [(o, eRD r w8 w9 (upd (upd (upd I 6 Y2) 4 X24.1) 7 x64)), ((r 1), aB k 700 tp), ((r 2), aC k 8 lf)] := hD
                  refine lv_aload_n hx hb dX2_next_249 rfl (lv_at hl 2 rfl) ?_
                  refine lv_dup hx hb dX2_next_250 rfl ?_
                  refine va_get (D := D) (ci := 1) (v := .int X24.1) (C := RX2) (T := TX2) (N := 10) hx hb hts in_X2 hown hg.1 hP 0 rfl rfl 4 (Nat.le_of_ble_eq_true rfl) (hts _ q199) (fun _ h9 => h9) rfl dX2_next_251 ?_
                  refine lv_iconst (v := 1) hx hb dX2_next_254 ci_1 ?_
                  refine lv_iadd hx hb dX2_next_255 ?_
                  refine lv_topi (fun x65 ex65 => ?_)
                  refine va_put (D := D) (ci := 1) (v := .int x65) (C := RX2) (T := TX2) (N := 10) hx hb hts in_X2 tyX2 tyX2_ok nmX2 hown hg.1 hP hD hS 0 rfl rfl 4 (Nat.le_of_ble_eq_true rfl) (hts _ q199) (fun _ h9 => h9) rfl ftX2_4 rfl rfl (Nat.le_of_ble_eq_true rfl) dX2_next_256 (fun H locs hP hD hS => ?_)
                  replace hP : va_P D vwCl [(o, eRD r w8 w9 (upd (upd (upd I 6 Y2) 7 x64) 4 x65)), ((r 1), aB k 700 tp), ((r 2), aC k 8 lf)] H := hP
                  replace hD : va_D A [(o, eRD r w8 w9 (upd (upd (upd I 6 Y2) 7 x64) 4 x65)), ((r 1), aB k 700 tp), ((r 2), aC k 8 lf)] := hD
                  refine lv_goto (tgt := 202) hx hb dX2_next_259 (by decide) ?_
                  exact ih24 (x65, x64) _ _ _ (Eq.trans (by subst ex65; subst ex64; subst eu63; subst eu59; subst eu58; exact Eq.symm (Eq.trans (if_neg c60) (Eq.trans (if_neg c61) (rfl)))) eX24) (by show atz zj x65 ∧ zj - (x65).toNatClampNeg < n24 ∧ Y2.toNatClampNeg ≤ (x65).toNatClampNeg; rw [ex65]; exact rd_st hv24.1 hv24.2.1 hv24.2.2 hlt hz7) hP hD hS (lv_sub hl [0, 1, 2] rfl)
          exact loop24 (zj + 1) (Y2, 0) _ _ _ rfl ⟨hE2.1, by omega, Nat.le_refl _⟩ hP hD hS (lv_sub hl [0, 1, 2] rfl)
      · have hsm : ¬ f_X2_isSmall (f_X2_see I tp Y2 Y2.toNatClampNeg) = 0 := by intro h_; exact c19 (eu18.trans (by rw [eu16]; exact h_))
        refine lv_aload_n hx hb dX2_next_64 rfl (lv_at hl 2 rfl) ?_
        refine lv_iload_n hx hb dX2_next_65 rfl (lv_at hl 1 rfl) ?_
        refine va_put (D := D) (ci := 1) (v := .int Y2) (C := RX2) (T := TX2) (N := 10) hx hb hts in_X2 tyX2 tyX2_ok nmX2 hown hg.1 hP hD hS 0 rfl rfl 4 (Nat.le_of_ble_eq_true rfl) (hts _ q199) (fun _ h9 => h9) rfl ftX2_4 rfl rfl (Nat.le_of_ble_eq_true rfl) dX2_next_66 (fun H locs hP hD hS => ?_)
        replace hP : va_P D vwCl [(o, eRD r w8 w9 (upd (upd I 6 Y2) 4 Y2)), ((r 1), aB k 700 tp), ((r 2), aC k 8 lf)] H := hP
        replace hD : va_D A [(o, eRD r w8 w9 (upd (upd I 6 Y2) 4 Y2)), ((r 1), aB k 700 tp), ((r 2), aC k 8 lf)] := hD
        have Jx66 : ∀ (Y66 : (Int32) × (Nat → Int32)) (H : Heap) (locs : List Loc) (ls : Array Slot), Y66 = f_X2_next_l69 I tp Y2 (zj + 1) (Y2, lf) → atz zj Y66.1 ∧ Y2.toNatClampNeg ≤ Y66.1.toNatClampNeg ∧ ltOK Y66.2 (Y66.1.toNatClampNeg - Y2.toNatClampNeg) ∧ f_X2_isSmall (f_X2_see I tp Y66.1 Y66.1.toNatClampNeg) = 0 → va_P D vwCl [(o, eRD r w8 w9 (upd (upd I 6 Y2) 4 Y66.1)), ((r 1), aB k 700 tp), ((r 2), aC k 8 Y66.2)] H → va_D A [(o, eRD r w8 w9 (upd (upd I 6 Y2) 4 Y66.1)), ((r 1), aB k 700 tp), ((r 2), aC k 8 Y66.2)] → va_S A s.heap H locs → lv_has ls 3 [(2, .int u16), (1, .int Y2), (0, .ref o)] → W p l e rm_X2_next s m ([.ref o] : List Value).toArray below meth c H locs 0 0 (MQ below (q_X2_next D k o r w8 w9 I tp lf zj A) ([.ref o] : List Value).toArray s 2 12 A) (F0 m 127 ls []) := by
          intro Y66 H locs ls eY66 hE66 hP hD hS hl
          have hke := hE66.2.1
          refine lv_aload_n hx hb dX2_next_127 rfl (lv_at hl 2 rfl) ?_
          refine lv_aload_n hx hb dX2_next_128 rfl (lv_at hl 2 rfl) ?_
          refine va_get (D := D) (ci := 1) (v := .int Y66.1) (C := RX2) (T := TX2) (N := 10) hx hb hts in_X2 hown hg.1 hP 0 rfl rfl 4 (Nat.le_of_ble_eq_true rfl) (hts _ q199) (fun _ h9 => h9) rfl dX2_next_129 ?_
          refine lv_iload_n hx hb dX2_next_132 rfl (lv_at hl 1 rfl) ?_
          refine lv_isub hx hb dX2_next_133 ?_
          refine lv_bipush (v := 8) hx hb dX2_next_134 cb_8 ?_
          refine lv_icmp_le (tgt := 143) hx hb dX2_next_136 (by decide) (fun c103 => ?_) (fun c103 => ?_)
          · refine lv_iconst (v := 2) hx hb dX2_next_143 ci_2 ?_
            refine va_put (D := D) (ci := 1) (v := .int 2) (C := RX2) (T := TX2) (N := 10) hx hb hts in_X2 tyX2 tyX2_ok nmX2 hown hg.1 hP hD hS 0 rfl rfl 5 (Nat.le_of_ble_eq_true rfl) (hts _ q200) (fun _ h9 => h9) rfl ftX2_5 rfl rfl (Nat.le_of_ble_eq_true rfl) dX2_next_144 (fun H locs hP hD hS => ?_)
            replace hP : va_P D vwCl [(o, eRD r w8 w9 (upd (upd (upd I 6 Y2) 4 Y66.1) 5 2)), ((r 1), aB k 700 tp), ((r 2), aC k 8 Y66.2)] H := hP
            replace hD : va_D A [(o, eRD r w8 w9 (upd (upd (upd I 6 Y2) 4 Y66.1) 5 2)), ((r 1), aB k 700 tp), ((r 2), aC k 8 Y66.2)] := hD
            refine lv_aload_n hx hb dX2_next_147 rfl (lv_at hl 2 rfl) ?_
            refine lv_aload_n hx hb dX2_next_148 rfl (lv_at hl 2 rfl) ?_
            refine va_get (D := D) (ci := 1) (v := .int 2) (C := RX2) (T := TX2) (N := 10) hx hb hts in_X2 hown hg.1 hP 0 rfl rfl 5 (Nat.le_of_ble_eq_true rfl) (hts _ q200) (fun _ h9 => h9) rfl dX2_next_149 ?_
            refine lv_iconst (v := 2) hx hb dX2_next_152 ci_2 ?_
            refine lv_icmp_ne (tgt := 177) hx hb dX2_next_153 (by decide) (fun c => absurd (by decide) c) (fun _ => ?_)
            have hn1 := rd_n1 hE66.1 hE2.1 hke hE66.2.2.2 hsm
            have hn8 : Y66.1.toNatClampNeg - Y2.toNatClampNeg ≤ 8 := Nat.le_of_not_lt (fun h_ => xle_f (xnsub hE66.1.1 hE2.1.1 hke) (show (8 : Int32) = nI 8 by decide) h_ (by have := hE66.1.2; omega) c103)
            refine va_new (ci := 12) (fs := [.null, .int 0, .int 0, .int 0]) (C := RJ3) (T := TJ3) (N := 4) hx hb hts in_J3 tyJ3 tyJ3_ok hown (hts _ q579) (hts _ q580) (hts _ q95) hg.1 hP hD hS hA rfl nf_J3 (Nat.le_of_ble_eq_true rfl) (Nat.le_of_ble_eq_true rfl) dX2_next_156 (fun q104 H hP hD hS => ?_)
            replace hP : va_P D vwCl [(o, eRD r w8 w9 (upd (upd (upd I 6 Y2) 4 Y66.1) 5 2)), ((r 1), aB k 700 tp), ((r 2), aC k 8 Y66.2), (q104, .inr (12, [.null, .int 0, .int 0, .int 0]))] H := hP
            replace hD : va_D A [(o, eRD r w8 w9 (upd (upd (upd I 6 Y2) 4 Y66.1) 5 2)), ((r 1), aB k 700 tp), ((r 2), aC k 8 Y66.2), (q104, .inr (12, [.null, .int 0, .int 0, .int 0]))] := hD
            refine W.cs (cells' := 1) (slots' := 4) rfl rfl ?_
            refine lv_dup hx hb dX2_next_159 rfl ?_
            refine lv_aload_n hx hb dX2_next_160 rfl (lv_at hl 2 rfl) ?_
            refine va_get (D := D) (ci := 1) (v := .ref (r 2)) (C := RX2) (T := TX2) (N := 10) hx hb hts in_X2 hown hg.1 hP 0 rfl rfl 2 (Nat.le_of_ble_eq_true rfl) (hts _ q197) (fun _ h9 => h9) rfl dX2_next_161 ?_
            refine lv_iconst (v := 0) hx hb dX2_next_164 ci_0 ?_
            refine lv_aload_n hx hb dX2_next_165 rfl (lv_at hl 2 rfl) ?_
            refine va_get (D := D) (ci := 1) (v := .int Y66.1) (C := RX2) (T := TX2) (N := 10) hx hb hts in_X2 hown hg.1 hP 0 rfl rfl 4 (Nat.le_of_ble_eq_true rfl) (hts _ q199) (fun _ h9 => h9) rfl dX2_next_166 ?_
            refine lv_iload_n hx hb dX2_next_169 rfl (lv_at hl 1 rfl) ?_
            refine lv_isub hx hb dX2_next_170 ?_
            refine xc_v (wc := [(q104, .inr (12, [.null, .int 0, .int 0, .int 0])), ((r 2), aC k 8 Y66.2)]) (wr := [(o, eRD r w8 w9 (upd (upd (upd I 6 Y2) 4 Y66.1) 5 2)), ((r 1), aB k 700 tp)]) hP hD hS hA [3, 2] [0, 1] rfl rfl rfl (by decide) (xrI ⟨hx, hb, hml, hown, hts⟩ hg (m_J3_init l D k _ q104 (r 2) Y66.2 0 (Y66.1 - Y2) (Y66.1.toNatClampNeg - Y2.toNatClampNeg) hz rfl (xnsub hE66.1.1 hE2.1.1 hke) hn1 hn8 (fun j hj => hE66.2.2.1 j hj (by omega))) hP hD [3, 2] rfl rfl (oldY.call hO hS (va_free (wc := [(q104, .inr (12, [.null, .int 0, .int 0, .int 0])), ((r 2), aC k 8 Y66.2)]) hD hS hA [3, 2] rfl)) q581 q582 q95 q583 rfl xo_J3_init ⟨rfl, rfl⟩ ⟨Nat.le_of_ble_eq_true rfl, Nat.le_of_ble_eq_true rfl⟩ hl.1 (Nat.le_of_ble_eq_true rfl) dX2_next_171 ⟨Nat.le_of_ble_eq_true rfl, Nat.le_of_ble_eq_true rfl⟩ rfl) (fun ugu105 H locs hw hP hD hS hk => ?_)
            obtain ⟨u105, g106⟩ := ugu105
            dsimp only at hw hP hD
            have eu105 := hw
            replace hP : va_P D vwCl [(o, eRD r w8 w9 (upd (upd (upd I 6 Y2) 4 Y66.1) 5 2)), ((r 1), aB k 700 tp), ((r 2), aC k 8 Y66.2), (q104, eSG (fun _ => g106) (fun _ => 0)), (g106, aB k (Y66.1.toNatClampNeg - Y2.toNatClampNeg) u105)] H := hP.sub [0, 1, 3, 2, 4] rfl
            replace hD : va_D A [(o, eRD r w8 w9 (upd (upd (upd I 6 Y2) 4 Y66.1) 5 2)), ((r 1), aB k 700 tp), ((r 2), aC k 8 Y66.2), (q104, eSG (fun _ => g106) (fun _ => 0)), (g106, aB k (Y66.1.toNatClampNeg - Y2.toNatClampNeg) u105)] := hD.sub [0, 1, 3, 2, 4] (by decide) rfl
            refine W.cs (cells' := 2) (slots' := 12) rfl rfl ?_
            refine lv_goto (tgt := 179) hx hb dX2_next_174 (by decide) ?_
            refine va_put (D := D) (ci := 1) (v := .ref q104) (C := RX2) (T := TX2) (N := 10) hx hb hts in_X2 tyX2 tyX2_ok nmX2 hown hg.1 hP hD hS 0 rfl rfl 8 (Nat.le_of_ble_eq_true rfl) (hts _ q203) (fun _ h9 => h9) rfl ftX2_8 rfl rfl (Nat.le_of_ble_eq_true rfl) dX2_next_179 (fun H locs hP hD hS => ?_)
            replace hP : va_P D vwCl [(o, eRD r (.ref q104) w9 (upd (upd (upd I 6 Y2) 4 Y66.1) 5 2)), ((r 1), aB k 700 tp), ((r 2), aC k 8 Y66.2), (q104, eSG (fun _ => g106) (fun _ => 0)), (g106, aB k (Y66.1.toNatClampNeg - Y2.toNatClampNeg) u105)] H := hP
            replace hD : va_D A [(o, eRD r (.ref q104) w9 (upd (upd (upd I 6 Y2) 4 Y66.1) 5 2)), ((r 1), aB k 700 tp), ((r 2), aC k 8 Y66.2), (q104, eSG (fun _ => g106) (fun _ => 0)), (g106, aB k (Y66.1.toNatClampNeg - Y2.toNatClampNeg) u105)] := hD
            refine lv_goto (tgt := 305) hx hb dX2_next_182 (by decide) ?_
            exact xret_v hx hb hr hlocks (by omega) (by omega) hS.2.2 dX2_next_305 (fun t ht => ⟨⟨((Y66.1, 2, Y2, (I 7), Y66.2, (Y66.1.toNatClampNeg - Y2.toNatClampNeg), u105), q104, g106, (.ref q104)), rfl, ⟨(by subst eu105; subst eY66; subst eu18; subst eu16; subst ex15; subst eY2; subst ex1; exact Eq.symm (Eq.trans (if_neg c17) (Eq.trans (if_neg c19) (Eq.trans (if_pos c103) (rfl))))), hE66.1, (fun _ => ⟨rfl, hn1, hn8⟩)⟩, by rw [ht]; exact optP rfl hP, optDP rfl hD⟩, hS.F ht⟩)
          · refine lv_iconst (v := 1) hx hb dX2_next_139 ci_1 ?_
            refine lv_goto (tgt := 144) hx hb dX2_next_140 (by decide) ?_
            refine va_put (D := D) (ci := 1) (v := .int 1) (C := RX2) (T := TX2) (N := 10) hx hb hts in_X2 tyX2 tyX2_ok nmX2 hown hg.1 hP hD hS 0 rfl rfl 5 (Nat.le_of_ble_eq_true rfl) (hts _ q200) (fun _ h9 => h9) rfl ftX2_5 rfl rfl (Nat.le_of_ble_eq_true rfl) dX2_next_144 (fun H locs hP hD hS => ?_)
            replace hP : va_P D vwCl [(o, eRD r w8 w9 (upd (upd (upd I 6 Y2) 4 Y66.1) 5 1)), ((r 1), aB k 700 tp), ((r 2), aC k 8 Y66.2)] H := hP
            replace hD : va_D A [(o, eRD r w8 w9 (upd (upd (upd I 6 Y2) 4 Y66.1) 5 1)), ((r 1), aB k 700 tp), ((r 2), aC k 8 Y66.2)] := hD
            refine lv_aload_n hx hb dX2_next_147 rfl (lv_at hl 2 rfl) ?_
            refine lv_aload_n hx hb dX2_next_148 rfl (lv_at hl 2 rfl) ?_
            refine va_get (D := D) (ci := 1) (v := .int 1) (C := RX2) (T := TX2) (N := 10) hx hb hts in_X2 hown hg.1 hP 0 rfl rfl 5 (Nat.le_of_ble_eq_true rfl) (hts _ q200) (fun _ h9 => h9) rfl dX2_next_149 ?_
            refine lv_iconst (v := 2) hx hb dX2_next_152 ci_2 ?_
            refine lv_icmp_ne (tgt := 177) hx hb dX2_next_153 (by decide) (fun _ => ?_) (fun c => absurd c (by decide))
            refine xs_ldc hx hb hz hg hown (tx := "") (i := 15) (List.mem_of_getElem? (i := 1) rfl) dX2_next_177 ?_
            refine va_put (D := D) (ci := 1) (v := .ref (k.1 (100 + 15))) (C := RX2) (T := TX2) (N := 10) hx hb hts in_X2 tyX2 tyX2_ok nmX2 hown hg.1 hP hD hS 0 rfl rfl 8 (Nat.le_of_ble_eq_true rfl) (hts _ q203) (fun _ h9 => h9) rfl ftX2_8 rfl rfl (Nat.le_of_ble_eq_true rfl) dX2_next_179 (fun H locs hP hD hS => ?_)
            replace hP : va_P D vwCl [(o, eRD r (.ref (k.1 (100 + 15))) w9 (upd (upd (upd I 6 Y2) 4 Y66.1) 5 1)), ((r 1), aB k 700 tp), ((r 2), aC k 8 Y66.2)] H := hP
            replace hD : va_D A [(o, eRD r (.ref (k.1 (100 + 15))) w9 (upd (upd (upd I 6 Y2) 4 Y66.1) 5 1)), ((r 1), aB k 700 tp), ((r 2), aC k 8 Y66.2)] := hD
            refine lv_goto (tgt := 305) hx hb dX2_next_182 (by decide) ?_
            exact xret_v hx hb hr hlocks (by omega) (by omega) hS.2.2 dX2_next_305 (fun t ht => ⟨⟨((Y66.1, 1, Y2, (I 7), Y66.2, 0, (fun _ => 0)), 0, 0, (.ref (k.1 (100 + 15)))), rfl, ⟨(by subst eY66; subst eu18; subst eu16; subst ex15; subst eY2; subst ex1; exact Eq.symm (Eq.trans (if_neg c17) (Eq.trans (if_neg c19) (Eq.trans (if_neg c103) (rfl))))), hE66.1, (fun h_ => absurd h_ (show ¬ (1 : Int32) = 2 by decide))⟩, by rw [ht]; exact optN (show ¬ (1 : Int32) = 2 by decide) hP, optDN (show ¬ (1 : Int32) = 2 by decide) hD⟩, hS.F ht⟩)
        have loop66 : ∀ (n66 : Nat) (X66 : (Int32) × (Nat → Int32)) (H : Heap) (locs : List Loc) (ls : Array Slot), f_X2_next_l69 I tp Y2 n66 X66 = f_X2_next_l69 I tp Y2 (zj + 1) (Y2, lf) → (atz zj X66.1 ∧ zj - X66.1.toNatClampNeg < n66 ∧ Y2.toNatClampNeg ≤ X66.1.toNatClampNeg ∧ ltOK X66.2 (X66.1.toNatClampNeg - Y2.toNatClampNeg)) → va_P D vwCl [(o, eRD r w8 w9 (upd (upd I 6 Y2) 4 X66.1)), ((r 1), aB k 700 tp), ((r 2), aC k 8 X66.2)] H → va_D A [(o, eRD r w8 w9 (upd (upd I 6 Y2) 4 X66.1)), ((r 1), aB k 700 tp), ((r 2), aC k 8 X66.2)] → va_S A s.heap H locs → lv_has ls 3 [(2, .int u16), (1, .int Y2), (0, .ref o)] → W p l e rm_X2_next s m ([.ref o] : List Value).toArray below meth c H locs 0 0 (MQ below (q_X2_next D k o r w8 w9 I tp lf zj A) ([.ref o] : List Value).toArray s 2 12 A) (F0 m 69 ls []) := by
          intro n66
          induction n66 with
          | zero => intro X66 H locs ls eX66 hv66; exact absurd (by have h_ := hv66.2.1; omega) (fun h => h)
          | succ n66 ih66 =>
            intro X66 H locs ls eX66 hv66 hP hD hS hl
            refine lv_aload_n hx hb dX2_next_69 rfl (lv_at hl 2 rfl) ?_
            refine lv_aload_n hx hb dX2_next_70 rfl (lv_at hl 2 rfl) ?_
            refine va_get (D := D) (ci := 1) (v := .int X66.1) (C := RX2) (T := TX2) (N := 10) hx hb hts in_X2 hown hg.1 hP 0 rfl rfl 4 (Nat.le_of_ble_eq_true rfl) (hts _ q199) (fun _ h9 => h9) rfl dX2_next_71 ?_
            refine xc_i (wc := [(o, eRD r w8 w9 (upd (upd I 6 Y2) 4 X66.1)), ((r 1), aB k 700 tp)]) (wr := [((r 2), aC k 8 X66.2)]) hP hD hS hA [0, 1] [2] rfl rfl rfl (by decide) (xrV ⟨hx, hb, hml, hown, hts⟩ hg (m_X2_see l D k _ o r w8 w9 (upd (upd I 6 Y2) 4 X66.1) tp X66.1 X66.1.toNatClampNeg zj hv66.1.1 (by have := hv66.1.2; omega) hzj hz7) hP hD [0, 1] rfl rfl trivial (ci := 1) (q0 := 0) rfl rfl rfl q571 q573 qs5 q84 q574 xo_X2_see ⟨rfl, rfl⟩ ⟨Nat.le_of_ble_eq_true rfl, Nat.le_of_ble_eq_true rfl⟩ hl.1 (Nat.le_of_ble_eq_true rfl) dX2_next_74 ⟨Nat.le_of_ble_eq_true rfl, Nat.le_of_ble_eq_true rfl⟩ rfl) (fun u107 r_ H locs hw hP hD hS hk => ?_)
            obtain ⟨rfl, eu107⟩ := hw
            replace hP : va_P D vwCl [(o, eRD r w8 w9 (upd (upd I 6 Y2) 4 X66.1)), ((r 1), aB k 700 tp), ((r 2), aC k 8 X66.2)] H := hP.sub [1, 2, 0] rfl
            replace hD : va_D A [(o, eRD r w8 w9 (upd (upd I 6 Y2) 4 X66.1)), ((r 1), aB k 700 tp), ((r 2), aC k 8 X66.2)] := hD.sub [1, 2, 0] (by decide) rfl
            refine xc_i (wc := []) (wr := [(o, eRD r w8 w9 (upd (upd I 6 Y2) 4 X66.1)), ((r 1), aB k 700 tp), ((r 2), aC k 8 X66.2)]) hP hD hS hA [] [0, 1, 2] rfl rfl rfl (by decide) (xrS ⟨hx, hb, hml, hown, hts⟩ hg (m_X2_isSmall l D k _ u107) hP hD [] rfl rfl trivial q575 q576 q84 q577 xo_X2_isSmall ⟨rfl, rfl⟩ ⟨Nat.le_of_ble_eq_true rfl, Nat.le_of_ble_eq_true rfl⟩ hl.1 (Nat.le_of_ble_eq_true rfl) dX2_next_77 ⟨Nat.le_of_ble_eq_true rfl, Nat.le_of_ble_eq_true rfl⟩ rfl) (fun u108 r_ H locs hw hP hD hS hk => ?_)
            obtain ⟨rfl, eu108, bu108⟩ := hw
            replace hP : va_P D vwCl [(o, eRD r w8 w9 (upd (upd I 6 Y2) 4 X66.1)), ((r 1), aB k 700 tp), ((r 2), aC k 8 X66.2)] H := hP.sub [0, 1, 2] rfl
            replace hD : va_D A [(o, eRD r w8 w9 (upd (upd I 6 Y2) 4 X66.1)), ((r 1), aB k 700 tp), ((r 2), aC k 8 X66.2)] := hD.sub [0, 1, 2] (by decide) rfl
            refine lv_if_eq (tgt := 127) hx hb dX2_next_80 (by decide) (fun c109 => ?_) (fun c109 => ?_)
            · exact Jx66 (X66.1, X66.2) _ _ _ (Eq.trans (by subst eu108; subst eu107; exact Eq.symm (Eq.trans (if_pos c109) (rfl))) eX66) ⟨hv66.1, hv66.2.2.1, hv66.2.2.2, (by have h_ := c109; rw [eu108, eu107] at h_; exact h_)⟩ hP hD hS (lv_sub hl [0, 1, 2] rfl)
            · have hlt := se_in (fun h => sm_ne (fun h2 => c109 (eu108.trans h2)) (eu107.trans h)) hv66.1.1 hzj (by have := hv66.1.2; omega)
              have hke := hv66.2.2.1
              have hsm2 : ¬ f_X2_isSmall (f_X2_see I tp X66.1 X66.1.toNatClampNeg) = 0 := by intro h_; exact c109 (eu108.trans (by rw [eu107]; exact h_))
              refine lv_aload_n hx hb dX2_next_83 rfl (lv_at hl 2 rfl) ?_
              refine va_get (D := D) (ci := 1) (v := .int X66.1) (C := RX2) (T := TX2) (N := 10) hx hb hts in_X2 hown hg.1 hP 0 rfl rfl 4 (Nat.le_of_ble_eq_true rfl) (hts _ q199) (fun _ h9 => h9) rfl dX2_next_84 ?_
              refine lv_iload_n hx hb dX2_next_87 rfl (lv_at hl 1 rfl) ?_
              refine lv_isub hx hb dX2_next_88 ?_
              refine lv_bipush (v := 8) hx hb dX2_next_89 cb_8 ?_
              refine lv_icmp_ge (tgt := 114) hx hb dX2_next_91 (by decide) (fun c110 => ?_) (fun c110 => ?_)
              · have h8 : 8 ≤ X66.1.toNatClampNeg - Y2.toNatClampNeg := Nat.le_of_not_lt (fun h_ => xle_f (show (8 : Int32) = nI 8 by decide) (xnsub hv66.1.1 hE2.1.1 hke) h_ (by omega) c110)
                refine lv_aload_n hx hb dX2_next_114 rfl (lv_at hl 2 rfl) ?_
                refine lv_dup hx hb dX2_next_115 rfl ?_
                refine va_get (D := D) (ci := 1) (v := .int X66.1) (C := RX2) (T := TX2) (N := 10) hx hb hts in_X2 hown hg.1 hP 0 rfl rfl 4 (Nat.le_of_ble_eq_true rfl) (hts _ q199) (fun _ h9 => h9) rfl dX2_next_116 ?_
                refine lv_iconst (v := 1) hx hb dX2_next_119 ci_1 ?_
                refine lv_iadd hx hb dX2_next_120 ?_
                refine lv_topi (fun x111 ex111 => ?_)
                refine va_put (D := D) (ci := 1) (v := .int x111) (C := RX2) (T := TX2) (N := 10) hx hb hts in_X2 tyX2 tyX2_ok nmX2 hown hg.1 hP hD hS 0 rfl rfl 4 (Nat.le_of_ble_eq_true rfl) (hts _ q199) (fun _ h9 => h9) rfl ftX2_4 rfl rfl (Nat.le_of_ble_eq_true rfl) dX2_next_121 (fun H locs hP hD hS => ?_)
                replace hP : va_P D vwCl [(o, eRD r w8 w9 (upd (upd I 6 Y2) 4 x111)), ((r 1), aB k 700 tp), ((r 2), aC k 8 X66.2)] H := hP
                replace hD : va_D A [(o, eRD r w8 w9 (upd (upd I 6 Y2) 4 x111)), ((r 1), aB k 700 tp), ((r 2), aC k 8 X66.2)] := hD
                refine lv_goto (tgt := 69) hx hb dX2_next_124 (by decide) ?_
                exact ih66 (x111, X66.2) _ _ _ (Eq.trans (by subst ex111; subst eu108; subst eu107; exact Eq.symm (Eq.trans (if_neg c109) (Eq.trans (if_pos c110) (rfl)))) eX66) (by show atz zj x111 ∧ zj - (x111).toNatClampNeg < n66 ∧ Y2.toNatClampNeg ≤ (x111).toNatClampNeg ∧ ltOK X66.2 ((x111).toNatClampNeg - Y2.toNatClampNeg); rw [ex111]; exact rd_stS hv66.1 hv66.2.1 hv66.2.2.1 hv66.2.2.2 hlt hz7 h8) hP hD hS (lv_sub hl [0, 1, 2] rfl)
              · have h8 : X66.1.toNatClampNeg - Y2.toNatClampNeg < 8 := ba_lt (xnsub hv66.1.1 hE2.1.1 hke) (show (8 : Int32) = nI 8 by decide) (by have := hv66.1.2; omega) c110
                refine lv_aload_n hx hb dX2_next_94 rfl (lv_at hl 2 rfl) ?_
                refine va_get (D := D) (ci := 1) (v := .ref (r 2)) (C := RX2) (T := TX2) (N := 10) hx hb hts in_X2 hown hg.1 hP 0 rfl rfl 2 (Nat.le_of_ble_eq_true rfl) (hts _ q197) (fun _ h9 => h9) rfl dX2_next_95 ?_
                refine lv_aload_n hx hb dX2_next_98 rfl (lv_at hl 2 rfl) ?_
                refine va_get (D := D) (ci := 1) (v := .int X66.1) (C := RX2) (T := TX2) (N := 10) hx hb hts in_X2 hown hg.1 hP 0 rfl rfl 4 (Nat.le_of_ble_eq_true rfl) (hts _ q199) (fun _ h9 => h9) rfl dX2_next_99 ?_
                refine lv_iload_n hx hb dX2_next_102 rfl (lv_at hl 1 rfl) ?_
                refine lv_isub hx hb dX2_next_103 ?_
                refine lv_aload_n hx hb dX2_next_104 rfl (lv_at hl 2 rfl) ?_
                refine lv_aload_n hx hb dX2_next_105 rfl (lv_at hl 2 rfl) ?_
                refine va_get (D := D) (ci := 1) (v := .int X66.1) (C := RX2) (T := TX2) (N := 10) hx hb hts in_X2 hown hg.1 hP 0 rfl rfl 4 (Nat.le_of_ble_eq_true rfl) (hts _ q199) (fun _ h9 => h9) rfl dX2_next_106 ?_
                refine xc_i (wc := [(o, eRD r w8 w9 (upd (upd I 6 Y2) 4 X66.1)), ((r 1), aB k 700 tp)]) (wr := [((r 2), aC k 8 X66.2)]) hP hD hS hA [0, 1] [2] rfl rfl rfl (by decide) (xrV ⟨hx, hb, hml, hown, hts⟩ hg (m_X2_see l D k _ o r w8 w9 (upd (upd I 6 Y2) 4 X66.1) tp X66.1 X66.1.toNatClampNeg zj hv66.1.1 (by have := hv66.1.2; omega) hzj hz7) hP hD [0, 1] rfl rfl trivial (ci := 1) (q0 := 0) rfl rfl rfl q571 q573 qs5 q84 q574 xo_X2_see ⟨rfl, rfl⟩ ⟨Nat.le_of_ble_eq_true rfl, Nat.le_of_ble_eq_true rfl⟩ hl.1 (Nat.le_of_ble_eq_true rfl) dX2_next_109 ⟨Nat.le_of_ble_eq_true rfl, Nat.le_of_ble_eq_true rfl⟩ rfl) (fun u112 r_ H locs hw hP hD hS hk => ?_)
                obtain ⟨rfl, eu112⟩ := hw
                replace hP : va_P D vwCl [(o, eRD r w8 w9 (upd (upd I 6 Y2) 4 X66.1)), ((r 1), aB k 700 tp), ((r 2), aC k 8 X66.2)] H := hP.sub [1, 2, 0] rfl
                replace hD : va_D A [(o, eRD r w8 w9 (upd (upd I 6 Y2) 4 X66.1)), ((r 1), aB k 700 tp), ((r 2), aC k 8 X66.2)] := hD.sub [1, 2, 0] (by decide) rfl
                refine lv_i2c hx hb dX2_next_112 rfl ?_
                refine lv_topi (fun x113 ex113 => ?_)
                refine xa_cast hx hb hg hP hD hS 2 rfl (xnsub hv66.1.1 hE2.1.1 (by omega)) (by omega) (by omega) dX2_next_113 (fun f114 H locs ef114 hP hD hS => ?_)
                replace hP : va_P D vwCl [(o, eRD r w8 w9 (upd (upd I 6 Y2) 4 X66.1)), ((r 1), aB k 700 tp), ((r 2), aC k 8 f114)] H := hP
                replace hD : va_D A [(o, eRD r w8 w9 (upd (upd I 6 Y2) 4 X66.1)), ((r 1), aB k 700 tp), ((r 2), aC k 8 f114)] := hD
                refine lv_aload_n hx hb dX2_next_114 rfl (lv_at hl 2 rfl) ?_
                refine lv_dup hx hb dX2_next_115 rfl ?_
                refine va_get (D := D) (ci := 1) (v := .int X66.1) (C := RX2) (T := TX2) (N := 10) hx hb hts in_X2 hown hg.1 hP 0 rfl rfl 4 (Nat.le_of_ble_eq_true rfl) (hts _ q199) (fun _ h9 => h9) rfl dX2_next_116 ?_
                refine lv_iconst (v := 1) hx hb dX2_next_119 ci_1 ?_
                refine lv_iadd hx hb dX2_next_120 ?_
                refine lv_topi (fun x115 ex115 => ?_)
                refine va_put (D := D) (ci := 1) (v := .int x115) (C := RX2) (T := TX2) (N := 10) hx hb hts in_X2 tyX2 tyX2_ok nmX2 hown hg.1 hP hD hS 0 rfl rfl 4 (Nat.le_of_ble_eq_true rfl) (hts _ q199) (fun _ h9 => h9) rfl ftX2_4 rfl rfl (Nat.le_of_ble_eq_true rfl) dX2_next_121 (fun H locs hP hD hS => ?_)
                replace hP : va_P D vwCl [(o, eRD r w8 w9 (upd (upd I 6 Y2) 4 x115)), ((r 1), aB k 700 tp), ((r 2), aC k 8 f114)] H := hP
                replace hD : va_D A [(o, eRD r w8 w9 (upd (upd I 6 Y2) 4 x115)), ((r 1), aB k 700 tp), ((r 2), aC k 8 f114)] := hD
                refine lv_goto (tgt := 69) hx hb dX2_next_124 (by decide) ?_
                exact ih66 (x115, f114) _ _ _ (Eq.trans (by subst ex115; subst ef114; subst ex113; subst eu112; subst eu108; subst eu107; exact Eq.symm (Eq.trans (if_neg c109) (Eq.trans (if_neg c110) (rfl)))) eX66) (by show atz zj x115 ∧ zj - (x115).toNatClampNeg < n66 ∧ Y2.toNatClampNeg ≤ (x115).toNatClampNeg ∧ ltOK f114 ((x115).toNatClampNeg - Y2.toNatClampNeg); rw [ef114, ex115]; exact rd_stL hv66.1 hv66.2.1 hv66.2.2.1 hv66.2.2.2 hlt hz7 (by rw [ex113, eu112]; exact sm_le hsm2)) hP hD hS (lv_sub hl [0, 1, 2] rfl)
        exact loop66 (zj + 1) (Y2, lf) _ _ _ rfl ⟨hE2.1, by omega, Nat.le_refl _, fun j h1 h2 => absurd h1 (by show ¬ j < Y2.toNatClampNeg - Y2.toNatClampNeg; omega)⟩ hP hD hS (lv_sub hl [0, 1, 2] rfl)
    · refine lv_aload_n hx hb dX2_next_44 rfl (lv_at hl 2 rfl) ?_
      refine lv_iconst (v := 0) hx hb dX2_next_45 ci_0 ?_
      refine va_put (D := D) (ci := 1) (v := .int 0) (C := RX2) (T := TX2) (N := 10) hx hb hts in_X2 tyX2 tyX2_ok nmX2 hown hg.1 hP hD hS 0 rfl rfl 5 (Nat.le_of_ble_eq_true rfl) (hts _ q200) (fun _ h9 => h9) rfl ftX2_5 rfl rfl (Nat.le_of_ble_eq_true rfl) dX2_next_46 (fun H locs hP hD hS => ?_)
      replace hP : va_P D vwCl [(o, eRD r w8 w9 (upd (upd (upd I 6 Y2) 4 x15) 5 0)), ((r 1), aB k 700 tp), ((r 2), aC k 8 lf)] H := hP
      replace hD : va_D A [(o, eRD r w8 w9 (upd (upd (upd I 6 Y2) 4 x15) 5 0)), ((r 1), aB k 700 tp), ((r 2), aC k 8 lf)] := hD
      refine lv_aload_n hx hb dX2_next_49 rfl (lv_at hl 2 rfl) ?_
      refine lv_iload_n hx hb dX2_next_50 rfl (lv_at hl 1 rfl) ?_
      refine va_put (D := D) (ci := 1) (v := .int Y2) (C := RX2) (T := TX2) (N := 10) hx hb hts in_X2 tyX2 tyX2_ok nmX2 hown hg.1 hP hD hS 0 rfl rfl 4 (Nat.le_of_ble_eq_true rfl) (hts _ q199) (fun _ h9 => h9) rfl ftX2_4 rfl rfl (Nat.le_of_ble_eq_true rfl) dX2_next_51 (fun H locs hP hD hS => ?_)
      replace hP : va_P D vwCl [(o, eRD r w8 w9 (upd (upd (upd I 6 Y2) 5 0) 4 Y2)), ((r 1), aB k 700 tp), ((r 2), aC k 8 lf)] H := hP
      replace hD : va_D A [(o, eRD r w8 w9 (upd (upd (upd I 6 Y2) 5 0) 4 Y2)), ((r 1), aB k 700 tp), ((r 2), aC k 8 lf)] := hD
      refine lv_goto (tgt := 305) hx hb dX2_next_54 (by decide) ?_
      exact xret_v hx hb hr hlocks (by omega) (by omega) hS.2.2 dX2_next_305 (fun t ht => ⟨⟨((Y2, 0, Y2, (I 7), lf, 0, (fun _ => 0)), 0, 0, w8), rfl, ⟨(by subst eu16; subst ex15; subst eY2; subst ex1; exact Eq.symm (Eq.trans (if_pos c17) (rfl))), hE2.1, (fun h_ => absurd h_ (show ¬ (0 : Int32) = 2 by decide))⟩, by rw [ht]; exact optN (show ¬ (0 : Int32) = 2 by decide) hP, optDN (show ¬ (0 : Int32) = 2 by decide) hD⟩, hS.F ht⟩)
  have loop2 : ∀ (n2 : Nat) (X2 : (Int32)) (H : Heap) (locs : List Loc) (ls : Array Slot), f_X2_next_l5 I tp n2 X2 = f_X2_next_l5 I tp (zj + 1) x1 → (atz zj X2 ∧ zj - X2.toNatClampNeg < n2) → va_P D vwCl [(o, eRD r w8 w9 I), ((r 1), aB k 700 tp), ((r 2), aC k 8 lf)] H → va_D A [(o, eRD r w8 w9 I), ((r 1), aB k 700 tp), ((r 2), aC k 8 lf)] → va_S A s.heap H locs → lv_has ls 3 [(1, .int X2), (0, .ref o)] → W p l e rm_X2_next s m ([.ref o] : List Value).toArray below meth c H locs 0 0 (MQ below (q_X2_next D k o r w8 w9 I tp lf zj A) ([.ref o] : List Value).toArray s 2 12 A) (F0 m 5 ls []) := by
    intro n2
    induction n2 with
    | zero => intro X2 H locs ls eX2 hv2; exact absurd (by have h_ := hv2.2; omega) (fun h => h)
    | succ n2 ih2 =>
      intro X2 H locs ls eX2 hv2 hP hD hS hl
      refine lv_aload_n hx hb dX2_next_5 rfl (lv_at hl 1 rfl) ?_
      refine lv_iload_n hx hb dX2_next_6 rfl (lv_at hl 0 rfl) ?_
      refine xc_i (wc := [(o, eRD r w8 w9 I), ((r 1), aB k 700 tp)]) (wr := [((r 2), aC k 8 lf)]) hP hD hS hA [0, 1] [2] rfl rfl rfl (by decide) (xrV ⟨hx, hb, hml, hown, hts⟩ hg (m_X2_see l D k _ o r w8 w9 I tp X2 X2.toNatClampNeg zj hv2.1.1 (by have := hv2.1.2; omega) hzj hz7) hP hD [0, 1] rfl rfl trivial (ci := 1) (q0 := 0) rfl rfl rfl q571 q573 qs5 q84 q574 xo_X2_see ⟨rfl, rfl⟩ ⟨Nat.le_of_ble_eq_true rfl, Nat.le_of_ble_eq_true rfl⟩ hl.1 (Nat.le_of_ble_eq_true rfl) dX2_next_7 ⟨Nat.le_of_ble_eq_true rfl, Nat.le_of_ble_eq_true rfl⟩ rfl) (fun u116 r_ H locs hw hP hD hS hk => ?_)
      obtain ⟨rfl, eu116⟩ := hw
      replace hP : va_P D vwCl [(o, eRD r w8 w9 I), ((r 1), aB k 700 tp), ((r 2), aC k 8 lf)] H := hP.sub [1, 2, 0] rfl
      replace hD : va_D A [(o, eRD r w8 w9 I), ((r 1), aB k 700 tp), ((r 2), aC k 8 lf)] := hD.sub [1, 2, 0] (by decide) rfl
      refine lv_bipush (v := 32) hx hb dX2_next_10 cb_32 ?_
      refine lv_icmp_ne (tgt := 21) hx hb dX2_next_12 (by decide) (fun c117 => ?_) (fun c117 => ?_)
      · exact Jx2 X2 _ _ _ (Eq.trans (by subst eu116; exact Eq.symm (Eq.trans (if_neg c117) (rfl))) eX2) ⟨hv2.1, trivial⟩ hP hD hS (lv_sub hl [0, 1] rfl)
      · have hlt := se_in (e32_ne (eu116.symm.trans c117)) hv2.1.1 hzj (by have := hv2.1.2; omega)
        obtain ⟨x118, ex118⟩ : ∃ z : Int32, z = X2 + 1 := ⟨_, rfl⟩
        refine lv_iinc (v := x118) (lv' := [(1, .int x118), (0, .ref o)]) hx hb dX2_next_15 hl (k := 0) rfl (by rw [ex118, ci_1]) (Nat.le_of_ble_eq_true rfl) rfl (fun ls hl => ?_)
        refine lv_goto (tgt := 5) hx hb dX2_next_18 (by decide) ?_
        exact ih2 x118 _ _ _ (Eq.trans (by subst ex118; subst eu116; exact Eq.symm (Eq.trans (if_pos c117) (rfl))) eX2) (by show atz zj x118 ∧ zj - (x118).toNatClampNeg < n2; rw [ex118]; exact atz.step hv2 hlt hz7) hP hD hS (lv_sub hl [0, 1] rfl)
  exact loop2 (zj + 1) x1 _ _ _ rfl ⟨by rw [ex1]; exact hend, by omega⟩ hP hD hS (lv_sub hl [0, 1] rfl)
