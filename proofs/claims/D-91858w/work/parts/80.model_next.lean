set_option maxRecDepth 100000
def f_X8_next_j21 (I : Nat → Int32) (tp : Nat → Int32) (Y2 : (Int32)) (X320 : (Int32) × (Int32) × (Int32)) : (Int32) :=
  if 3 ≤ X320.1 then
    X320.2.2
  else
    let u387 := f_X8_byteAt (upd (upd (upd (upd (upd I 10 Y2) 9 0) 11 0) 8 X320.2.1) 12 X320.2.2) tp X320.2.1 X320.2.1.toNatClampNeg
    let x388 := (((10 * X320.2.2) + u387) - 48)
    x388
def f_X8_next_l178 (I : Nat → Int32) (tp : Nat → Int32) (Y2 : (Int32)) : Nat → ((Int32) × (Int32) × (Int32)) → (Int32) × (Int32) × (Int32)
  | 0, X320 => X320
  | n320 + 1, X320 => let u374 := f_X8_byteAt (upd (upd (upd (upd (upd I 10 Y2) 9 0) 11 0) 8 X320.2.1) 12 X320.2.2) tp X320.2.1 X320.2.1.toNatClampNeg
    let u375 := f_X8_isDigit u374
    if u375 = 0 then
      (X320.1, X320.2.1, X320.2.2)
    else
      let v383 := f_X8_next_j21 I tp Y2 X320
      let x384 := X320.1 + 1
      let x385 := (X320.2.1 + 1)
      f_X8_next_l178 I tp Y2 n320 (x384, x385, v383)
def f_X8_next_j25 (I : Nat → Int32) (tp : Nat → Int32) (Y2 : (Int32)) (X389 : (Int32) × (Int32) × (Int64)) : (Int64) :=
  if 8 ≤ X389.1 then
    X389.2.2
  else
    let u456 := f_X8_byteAt (upd (upd (upd (upd I 10 Y2) 9 0) 11 0) 8 X389.2.1) tp X389.2.1 X389.2.1.toNatClampNeg
    let x457 := ((32 * X389.2.2) + (((u456 - 97) + 1).toInt64))
    x457
def f_X8_next_l89 (I : Nat → Int32) (tp : Nat → Int32) (Y2 : (Int32)) : Nat → ((Int32) × (Int32) × (Int64)) → (Int32) × (Int32) × (Int64)
  | 0, X389 => X389
  | n389 + 1, X389 => let u443 := f_X8_byteAt (upd (upd (upd (upd I 10 Y2) 9 0) 11 0) 8 X389.2.1) tp X389.2.1 X389.2.1.toNatClampNeg
    let u444 := f_X8_isLetter u443
    if u444 = 0 then
      (X389.1, X389.2.1, X389.2.2)
    else
      let v452 := f_X8_next_j25 I tp Y2 X389
      let x453 := X389.1 + 1
      let x454 := (X389.2.1 + 1)
      f_X8_next_l89 I tp Y2 n389 (x453, x454, v452)
def f_X8_next_j17 (I : Nat → Int32) (L : Nat → Int64) (tp : Nat → Int32) (zj : Nat) (Y2 : (Int32)) (u15 : Int32) : (Int32) × (Int32) × (Int32) × (Int32) × (Int32) × (Int64) :=
  if u15 = (-1) then
    (0, Y2, 1, 0, (I 12), (L 15))
  else
    let u312 := f_X8_isLetter u15
    if u312 = 0 then
      let u314 := f_X8_isDigit u15
      if u314 = 0 then
        if u15 = 59 then
          let x317 := (Y2 + 1)
          (0, x317, 4, u15, (I 12), (L 15))
        else
          if u15 = 44 then
            let x319 := (Y2 + 1)
            (0, x319, 4, u15, (I 12), (L 15))
          else
            (0, Y2, 0, 0, (I 12), (L 15))
      else
        let Y320 := f_X8_next_l178 I tp Y2 (zj + 1) (0, Y2, 0)
        if 3 < Y320.1 then
          (Y320.1, Y320.2.1, 0, 0, Y320.2.2, (L 15))
        else
          (Y320.1, Y320.2.1, 3, 0, Y320.2.2, (L 15))
    else
      let Y389 := f_X8_next_l89 I tp Y2 (zj + 1) (0, Y2, 0)
      if 8 < Y389.1 then
        (Y389.1, Y389.2.1, 0, 0, (I 12), Y389.2.2)
      else
        (Y389.1, Y389.2.1, 2, 0, (I 12), Y389.2.2)
def f_X8_next_l9 (I : Nat → Int32) (tp : Nat → Int32) : Nat → ((Int32)) → (Int32)
  | 0, X2 => X2
  | n2 + 1, X2 => let u458 := f_X8_byteAt (upd I 8 X2) tp X2 X2.toNatClampNeg
    if u458 = 32 then
      let x460 := (X2 + 1)
      f_X8_next_l9 I tp n2 x460
    else
      X2
def f_X8_next (I : Nat → Int32) (L : Nat → Int64) (tp : Nat → Int32) (zj : Nat) : Int32 × Int32 × Int32 × Int32 × Int32 × Int64 :=
  if (I 9) = 5 then
    ((I 8), (I 9), (I 10), (I 11), (I 12), (L 15))
  else
    let Y2 := f_X8_next_l9 I tp (zj + 1) (I 8)
    let u15 := f_X8_byteAt (upd (upd (upd (upd I 8 Y2) 10 Y2) 9 0) 11 0) tp Y2 Y2.toNatClampNeg
    let v310 := f_X8_next_j17 I L tp zj Y2 u15
    (v310.2.1, v310.2.2.1, Y2, v310.2.2.2.1, v310.2.2.2.2.1, v310.2.2.2.2.2)
abbrev q_X8_next (D : va_G) (k : KK) (o : Nat) (r : Nat → Nat) (mv : Value) (fr : Value) (I : Nat → Int32) (L : Nat → Int64) (tp : Nat → Int32) (zj : Nat) (A : Nat → Prop) : Array Value → State → Outcome → State → Prop := va_Qv (fun (u : Int32 × Int32 × Int32 × Int32 × Int32 × Int64) => u = f_X8_next I L tp zj) (bx D (fun u => [(o, eMM r mv fr (upd (upd (upd (upd (upd I 8 u.1) 9 u.2.1) 10 u.2.2.1) 11 u.2.2.2.1) 12 u.2.2.2.2.1) (vp_updL L 15 u.2.2.2.2.2)), ((r 5), aB k 700 tp)]) A) A
abbrev rm_X8_next : Room := { frames := 2, cells := 0, slots := 0, locals := 80 }
theorem xo_X8_next : xok yX8_next 0 := by unfold xok; decide +kernel
set_option maxHeartbeats 8000000 in
theorem m_X8_next (l : Launch) (D : va_G) (k : KK) (sz : Nat) (o : Nat) (r : Nat → Nat) (mv : Value) (fr : Value) (I : Nat → Int32) (L : Nat → Int64) (tp : Nat → Int32) (zj : Nat) (hzj : I 7 = nI zj) (hz7 : zj ≤ 700) (hat : atz zj (I 8)) : Met l yX8_next (ws_ yX8_next cX8_next 3 none) rm_X8_next (pcx D k [.ref o] sz [(o, eMM r mv fr I L), ((r 5), aB k 700 tp)] (fun _ => True)) (q_X8_next D k o r mv fr I L tp zj (va_A [(o, eMM r mv fr I L), ((r 5), aB k 700 tp)] sz)) 0 0 (va_A [(o, eMM r mv fr I L), ((r 5), aB k 700 tp)] sz) := by
  refine Met.start (Qc := q_X8_next D k o r mv fr I L tp zj) (by decide) (Nat.le_of_ble_eq_true rfl) ?_
  intro p e s m below meth c A hx hb hr hlocks hml hown hin hts hg hP hD hA hAn hS hY hsz ls hl
  have hown : s.vm.findClass RX8 = some m.cls := hown
  have hl : lv_has ls 3 [(0, .ref o)] := hl
  refine lv_aload_n hx hb dX8_next_0 rfl (lv_at hl 0 rfl) ?_
  refine va_get (D := D) (ci := 10) (v := .int (I 9)) (C := RX8) (T := TX8) (N := 37) hx hb hts in_X8 hown hg.1 hP 0 rfl rfl 9 (Nat.le_of_ble_eq_true rfl) (hts _ q1150) (fun _ h9 => h9) rfl dX8_next_1 ?_
  refine lv_iconst (v := 5) hx hb dX8_next_4 ci_5 ?_
  refine lv_icmp_ne (tgt := 9) hx hb dX8_next_5 (by decide) (fun c1 => ?_) (fun c1 => ?_)
  · have Jx2 : ∀ (Y2 : (Int32)) (H : Heap) (locs : List Loc) (ls : Array Slot), Y2 = f_X8_next_l9 I tp (zj + 1) (I 8) → atz zj Y2 → va_P D vwCl [(o, eMM r mv fr (upd I 8 Y2) L), ((r 5), aB k 700 tp)] H → va_D A [(o, eMM r mv fr (upd I 8 Y2) L), ((r 5), aB k 700 tp)] → va_S A s.heap H locs → lv_has ls 3 [(0, .ref o)] → W p l e rm_X8_next s m ([.ref o] : List Value).toArray below meth c H locs 0 0 (MQ below (q_X8_next D k o r mv fr I L tp zj A) ([.ref o] : List Value).toArray s 0 0 A) (F0 m 35 ls []) := by
      intro Y2 H locs ls eY2 hE2 hP hD hS hl
      refine lv_aload_n hx hb dX8_next_35 rfl (lv_at hl 0 rfl) ?_
      refine lv_aload_n hx hb dX8_next_36 rfl (lv_at hl 0 rfl) ?_
      refine va_get (D := D) (ci := 10) (v := .int Y2) (C := RX8) (T := TX8) (N := 37) hx hb hts in_X8 hown hg.1 hP 0 rfl rfl 8 (Nat.le_of_ble_eq_true rfl) (hts _ q1149) (fun _ h9 => h9) rfl dX8_next_37 ?_
      refine va_put (D := D) (ci := 10) (v := .int Y2) (C := RX8) (T := TX8) (N := 37) hx hb hts in_X8 tyX8 tyX8_ok nmX8 hown hg.1 hP hD hS 0 rfl rfl 10 (Nat.le_of_ble_eq_true rfl) (hts _ q1151) (fun _ h9 => h9) rfl ftX8_10 rfl rfl (Nat.le_of_ble_eq_true rfl) dX8_next_40 (fun H locs hP hD hS => ?_)
      replace hP : va_P D vwCl [(o, eMM r mv fr (upd (upd I 8 Y2) 10 Y2) L), ((r 5), aB k 700 tp)] H := hP
      replace hD : va_D A [(o, eMM r mv fr (upd (upd I 8 Y2) 10 Y2) L), ((r 5), aB k 700 tp)] := hD
      refine lv_aload_n hx hb dX8_next_43 rfl (lv_at hl 0 rfl) ?_
      refine lv_iconst (v := 0) hx hb dX8_next_44 ci_0 ?_
      refine va_put (D := D) (ci := 10) (v := .int 0) (C := RX8) (T := TX8) (N := 37) hx hb hts in_X8 tyX8 tyX8_ok nmX8 hown hg.1 hP hD hS 0 rfl rfl 9 (Nat.le_of_ble_eq_true rfl) (hts _ q1150) (fun _ h9 => h9) rfl ftX8_9 rfl rfl (Nat.le_of_ble_eq_true rfl) dX8_next_45 (fun H locs hP hD hS => ?_)
      replace hP : va_P D vwCl [(o, eMM r mv fr (upd (upd (upd I 8 Y2) 10 Y2) 9 0) L), ((r 5), aB k 700 tp)] H := hP
      replace hD : va_D A [(o, eMM r mv fr (upd (upd (upd I 8 Y2) 10 Y2) 9 0) L), ((r 5), aB k 700 tp)] := hD
      refine lv_aload_n hx hb dX8_next_48 rfl (lv_at hl 0 rfl) ?_
      refine lv_iconst (v := 0) hx hb dX8_next_49 ci_0 ?_
      refine va_put (D := D) (ci := 10) (v := .int 0) (C := RX8) (T := TX8) (N := 37) hx hb hts in_X8 tyX8 tyX8_ok nmX8 hown hg.1 hP hD hS 0 rfl rfl 11 (Nat.le_of_ble_eq_true rfl) (hts _ q1152) (fun _ h9 => h9) rfl ftX8_11 rfl rfl (Nat.le_of_ble_eq_true rfl) dX8_next_50 (fun H locs hP hD hS => ?_)
      replace hP : va_P D vwCl [(o, eMM r mv fr (upd (upd (upd (upd I 8 Y2) 10 Y2) 9 0) 11 0) L), ((r 5), aB k 700 tp)] H := hP
      replace hD : va_D A [(o, eMM r mv fr (upd (upd (upd (upd I 8 Y2) 10 Y2) 9 0) 11 0) L), ((r 5), aB k 700 tp)] := hD
      refine lv_aload_n hx hb dX8_next_53 rfl (lv_at hl 0 rfl) ?_
      refine lv_aload_n hx hb dX8_next_54 rfl (lv_at hl 0 rfl) ?_
      refine va_get (D := D) (ci := 10) (v := .int Y2) (C := RX8) (T := TX8) (N := 37) hx hb hts in_X8 hown hg.1 hP 0 rfl rfl 8 (Nat.le_of_ble_eq_true rfl) (hts _ q1149) (fun _ h9 => h9) rfl dX8_next_55 ?_
      refine xc_i (wc := [(o, eMM r mv fr (upd (upd (upd (upd I 8 Y2) 10 Y2) 9 0) 11 0) L), ((r 5), aB k 700 tp)]) (wr := []) hP hD hS hA [0, 1] [] rfl rfl rfl (by decide) (xrV ⟨hx, hb, hml, hown, hts⟩ hg (m_X8_byteAt l D k _ o r mv fr (upd (upd (upd (upd I 8 Y2) 10 Y2) 9 0) 11 0) L tp Y2 Y2.toNatClampNeg zj hE2.1 (by have := hE2.2; omega) hzj hz7) hP hD [0, 1] rfl rfl trivial (ci := 10) (q0 := 0) rfl rfl rfl q1346 q1348 qs41 q93 q1349 xo_X8_byteAt ⟨rfl, rfl⟩ ⟨Nat.le_of_ble_eq_true rfl, Nat.le_of_ble_eq_true rfl⟩ hl.1 (Nat.le_of_ble_eq_true rfl) dX8_next_58 ⟨Nat.le_of_ble_eq_true rfl, Nat.le_of_ble_eq_true rfl⟩ rfl) (fun u15 r_ H locs hw hP hD hS hk => ?_)
      obtain ⟨rfl, eu15⟩ := hw
      replace hP : va_P D vwCl [(o, eMM r mv fr (upd (upd (upd (upd I 8 Y2) 10 Y2) 9 0) 11 0) L), ((r 5), aB k 700 tp)] H := hP.sub [0, 1] rfl
      replace hD : va_D A [(o, eMM r mv fr (upd (upd (upd (upd I 8 Y2) 10 Y2) 9 0) 11 0) L), ((r 5), aB k 700 tp)] := hD.sub [0, 1] (by decide) rfl
      refine lv_istore_n (lv' := [(1, .int u15), (0, .ref o)]) hx hb dX8_next_61 rfl hl (Nat.le_of_ble_eq_true rfl) rfl (fun ls hl => ?_)
      refine lv_iconst (v := 0) hx hb dX8_next_62 ci_0 ?_
      refine lv_istore_n (lv' := [(2, .int 0), (1, .int u15), (0, .ref o)]) hx hb dX8_next_63 rfl hl (Nat.le_of_ble_eq_true rfl) rfl (fun ls hl => ?_)
      refine lv_iload_n hx hb dX8_next_64 rfl (lv_at hl 1 rfl) ?_
      refine lv_iconst (v := (-1)) hx hb dX8_next_65 ci_m1 ?_
      have Jn17 : ∀ (v310 : (Int32) × (Int32) × (Int32) × (Int32) × (Int32) × (Int64)) (H : Heap) (locs : List Loc) (ls : Array Slot), v310 = f_X8_next_j17 I L tp zj Y2 u15 → va_P D vwCl [(o, eMM r mv fr (upd (upd (upd (upd (upd I 10 Y2) 8 v310.2.1) 9 v310.2.2.1) 11 v310.2.2.2.1) 12 v310.2.2.2.2.1) (vp_updL L 15 v310.2.2.2.2.2)), ((r 5), aB k 700 tp)] H → va_D A [(o, eMM r mv fr (upd (upd (upd (upd (upd I 10 Y2) 8 v310.2.1) 9 v310.2.2.1) 11 v310.2.2.2.1) 12 v310.2.2.2.2.1) (vp_updL L 15 v310.2.2.2.2.2)), ((r 5), aB k 700 tp)] → va_S A s.heap H locs → lv_has ls 3 [(2, .int v310.1), (1, .int u15), (0, .ref o)] → W p l e rm_X8_next s m ([.ref o] : List Value).toArray below meth c H locs 0 0 (MQ below (q_X8_next D k o r mv fr I L tp zj A) ([.ref o] : List Value).toArray s 0 0 A) (F0 m 281 ls []) := by
        intro v310 H locs ls ev310 hP hD hS hl
        exact xret_v hx hb hr hlocks (Nat.le_of_ble_eq_true rfl) (Nat.le_of_ble_eq_true rfl) hS.2.2 dX8_next_281 (fun t ht => ⟨⟨(v310.2.1, v310.2.2.1, Y2, v310.2.2.2.1, v310.2.2.2.2.1, v310.2.2.2.2.2), rfl, (by subst ev310; subst eu15; subst eY2; exact Eq.symm (Eq.trans (if_neg c1) (rfl))), by rw [ht]; exact hP, hD⟩, hS.F ht⟩)
      refine lv_icmp_ne (tgt := 77) hx hb dX8_next_66 (by decide) (fun c311 => ?_) (fun c311 => ?_)
      · refine lv_iload_n hx hb dX8_next_77 rfl (lv_at hl 1 rfl) ?_
        refine xc_i (wc := []) (wr := [(o, eMM r mv fr (upd (upd (upd (upd I 8 Y2) 10 Y2) 9 0) 11 0) L), ((r 5), aB k 700 tp)]) hP hD hS hA [] [0, 1] rfl rfl rfl (by decide) (xrS ⟨hx, hb, hml, hown, hts⟩ hg (m_X8_isLetter l D k _ u15) hP hD [] rfl rfl trivial q1350 q1351 q93 q1352 xo_X8_isLetter ⟨rfl, rfl⟩ ⟨Nat.le_of_ble_eq_true rfl, Nat.le_of_ble_eq_true rfl⟩ hl.1 (Nat.le_of_ble_eq_true rfl) dX8_next_78 ⟨Nat.le_of_ble_eq_true rfl, Nat.le_of_ble_eq_true rfl⟩ rfl) (fun u312 r_ H locs hw hP hD hS hk => ?_)
        obtain ⟨rfl, eu312, bu312⟩ := hw
        replace hP : va_P D vwCl [(o, eMM r mv fr (upd (upd (upd (upd I 8 Y2) 10 Y2) 9 0) 11 0) L), ((r 5), aB k 700 tp)] H := hP.sub [0, 1] rfl
        replace hD : va_D A [(o, eMM r mv fr (upd (upd (upd (upd I 8 Y2) 10 Y2) 9 0) 11 0) L), ((r 5), aB k 700 tp)] := hD.sub [0, 1] (by decide) rfl
        refine lv_if_eq (tgt := 166) hx hb dX8_next_81 (by decide) (fun c313 => ?_) (fun c313 => ?_)
        · refine lv_iload_n hx hb dX8_next_166 rfl (lv_at hl 1 rfl) ?_
          refine xc_i (wc := []) (wr := [(o, eMM r mv fr (upd (upd (upd (upd I 8 Y2) 10 Y2) 9 0) 11 0) L), ((r 5), aB k 700 tp)]) hP hD hS hA [] [0, 1] rfl rfl rfl (by decide) (xrS ⟨hx, hb, hml, hown, hts⟩ hg (m_X8_isDigit l D k _ u15) hP hD [] rfl rfl trivial q1354 q1355 q93 q1356 xo_X8_isDigit ⟨rfl, rfl⟩ ⟨Nat.le_of_ble_eq_true rfl, Nat.le_of_ble_eq_true rfl⟩ hl.1 (Nat.le_of_ble_eq_true rfl) dX8_next_167 ⟨Nat.le_of_ble_eq_true rfl, Nat.le_of_ble_eq_true rfl⟩ rfl) (fun u314 r_ H locs hw hP hD hS hk => ?_)
          obtain ⟨rfl, eu314, bu314⟩ := hw
          replace hP : va_P D vwCl [(o, eMM r mv fr (upd (upd (upd (upd I 8 Y2) 10 Y2) 9 0) 11 0) L), ((r 5), aB k 700 tp)] H := hP.sub [0, 1] rfl
          replace hD : va_D A [(o, eMM r mv fr (upd (upd (upd (upd I 8 Y2) 10 Y2) 9 0) 11 0) L), ((r 5), aB k 700 tp)] := hD.sub [0, 1] (by decide) rfl
          refine lv_if_eq (tgt := 249) hx hb dX8_next_170 (by decide) (fun c315 => ?_) (fun c315 => ?_)
          · refine lv_iload_n hx hb dX8_next_249 rfl (lv_at hl 1 rfl) ?_
            refine lv_bipush (v := 59) hx hb dX8_next_250 cb_59 ?_
            refine lv_icmp_eq (tgt := 261) hx hb dX8_next_252 (by decide) (fun c316 => ?_) (fun c316 => ?_)
            · refine lv_aload_n hx hb dX8_next_261 rfl (lv_at hl 2 rfl) ?_
              refine lv_iconst (v := 4) hx hb dX8_next_262 ci_4 ?_
              refine va_put (D := D) (ci := 10) (v := .int 4) (C := RX8) (T := TX8) (N := 37) hx hb hts in_X8 tyX8 tyX8_ok nmX8 hown hg.1 hP hD hS 0 rfl rfl 9 (Nat.le_of_ble_eq_true rfl) (hts _ q1150) (fun _ h9 => h9) rfl ftX8_9 rfl rfl (Nat.le_of_ble_eq_true rfl) dX8_next_263 (fun H locs hP hD hS => ?_)
              replace hP : va_P D vwCl [(o, eMM r mv fr (upd (upd (upd (upd I 8 Y2) 10 Y2) 11 0) 9 4) L), ((r 5), aB k 700 tp)] H := hP
              replace hD : va_D A [(o, eMM r mv fr (upd (upd (upd (upd I 8 Y2) 10 Y2) 11 0) 9 4) L), ((r 5), aB k 700 tp)] := hD
              refine lv_aload_n hx hb dX8_next_266 rfl (lv_at hl 2 rfl) ?_
              refine lv_iload_n hx hb dX8_next_267 rfl (lv_at hl 1 rfl) ?_
              refine va_put (D := D) (ci := 10) (v := .int u15) (C := RX8) (T := TX8) (N := 37) hx hb hts in_X8 tyX8 tyX8_ok nmX8 hown hg.1 hP hD hS 0 rfl rfl 11 (Nat.le_of_ble_eq_true rfl) (hts _ q1152) (fun _ h9 => h9) rfl ftX8_11 rfl rfl (Nat.le_of_ble_eq_true rfl) dX8_next_268 (fun H locs hP hD hS => ?_)
              replace hP : va_P D vwCl [(o, eMM r mv fr (upd (upd (upd (upd I 8 Y2) 10 Y2) 9 4) 11 u15) L), ((r 5), aB k 700 tp)] H := hP
              replace hD : va_D A [(o, eMM r mv fr (upd (upd (upd (upd I 8 Y2) 10 Y2) 9 4) 11 u15) L), ((r 5), aB k 700 tp)] := hD
              refine lv_aload_n hx hb dX8_next_271 rfl (lv_at hl 2 rfl) ?_
              refine lv_dup hx hb dX8_next_272 rfl ?_
              refine va_get (D := D) (ci := 10) (v := .int Y2) (C := RX8) (T := TX8) (N := 37) hx hb hts in_X8 hown hg.1 hP 0 rfl rfl 8 (Nat.le_of_ble_eq_true rfl) (hts _ q1149) (fun _ h9 => h9) rfl dX8_next_273 ?_
              refine lv_iconst (v := 1) hx hb dX8_next_276 ci_1 ?_
              refine lv_iadd hx hb dX8_next_277 ?_
              refine lv_topi (fun x317 ex317 => ?_)
              refine va_put (D := D) (ci := 10) (v := .int x317) (C := RX8) (T := TX8) (N := 37) hx hb hts in_X8 tyX8 tyX8_ok nmX8 hown hg.1 hP hD hS 0 rfl rfl 8 (Nat.le_of_ble_eq_true rfl) (hts _ q1149) (fun _ h9 => h9) rfl ftX8_8 rfl rfl (Nat.le_of_ble_eq_true rfl) dX8_next_278 (fun H locs hP hD hS => ?_)
              replace hP : va_P D vwCl [(o, eMM r mv fr (upd (upd (upd (upd I 10 Y2) 9 4) 11 u15) 8 x317) L), ((r 5), aB k 700 tp)] H := hP
              replace hD : va_D A [(o, eMM r mv fr (upd (upd (upd (upd I 10 Y2) 9 4) 11 u15) 8 x317) L), ((r 5), aB k 700 tp)] := hD
              exact Jn17 (0, x317, 4, u15, (I 12), (L 15)) _ _ _ (by subst ex317; subst eu314; subst eu312; exact Eq.symm (Eq.trans (if_neg c311) (Eq.trans (if_pos c313) (Eq.trans (if_pos c315) (Eq.trans (if_pos c316) (rfl)))))) hP hD hS (lv_sub hl [0, 1, 2] rfl)
            · refine lv_iload_n hx hb dX8_next_255 rfl (lv_at hl 1 rfl) ?_
              refine lv_bipush (v := 44) hx hb dX8_next_256 cb_44 ?_
              refine lv_icmp_ne (tgt := 281) hx hb dX8_next_258 (by decide) (fun c318 => ?_) (fun c318 => ?_)
              · exact Jn17 (0, Y2, 0, 0, (I 12), (L 15)) _ _ _ (by subst eu314; subst eu312; exact Eq.symm (Eq.trans (if_neg c311) (Eq.trans (if_pos c313) (Eq.trans (if_pos c315) (Eq.trans (if_neg c316) (Eq.trans (if_neg c318) (rfl))))))) hP hD hS (lv_sub hl [0, 1, 2] rfl)
              · refine lv_aload_n hx hb dX8_next_261 rfl (lv_at hl 2 rfl) ?_
                refine lv_iconst (v := 4) hx hb dX8_next_262 ci_4 ?_
                refine va_put (D := D) (ci := 10) (v := .int 4) (C := RX8) (T := TX8) (N := 37) hx hb hts in_X8 tyX8 tyX8_ok nmX8 hown hg.1 hP hD hS 0 rfl rfl 9 (Nat.le_of_ble_eq_true rfl) (hts _ q1150) (fun _ h9 => h9) rfl ftX8_9 rfl rfl (Nat.le_of_ble_eq_true rfl) dX8_next_263 (fun H locs hP hD hS => ?_)
                replace hP : va_P D vwCl [(o, eMM r mv fr (upd (upd (upd (upd I 8 Y2) 10 Y2) 11 0) 9 4) L), ((r 5), aB k 700 tp)] H := hP
                replace hD : va_D A [(o, eMM r mv fr (upd (upd (upd (upd I 8 Y2) 10 Y2) 11 0) 9 4) L), ((r 5), aB k 700 tp)] := hD
                refine lv_aload_n hx hb dX8_next_266 rfl (lv_at hl 2 rfl) ?_
                refine lv_iload_n hx hb dX8_next_267 rfl (lv_at hl 1 rfl) ?_
                refine va_put (D := D) (ci := 10) (v := .int u15) (C := RX8) (T := TX8) (N := 37) hx hb hts in_X8 tyX8 tyX8_ok nmX8 hown hg.1 hP hD hS 0 rfl rfl 11 (Nat.le_of_ble_eq_true rfl) (hts _ q1152) (fun _ h9 => h9) rfl ftX8_11 rfl rfl (Nat.le_of_ble_eq_true rfl) dX8_next_268 (fun H locs hP hD hS => ?_)
                replace hP : va_P D vwCl [(o, eMM r mv fr (upd (upd (upd (upd I 8 Y2) 10 Y2) 9 4) 11 u15) L), ((r 5), aB k 700 tp)] H := hP
                replace hD : va_D A [(o, eMM r mv fr (upd (upd (upd (upd I 8 Y2) 10 Y2) 9 4) 11 u15) L), ((r 5), aB k 700 tp)] := hD
                refine lv_aload_n hx hb dX8_next_271 rfl (lv_at hl 2 rfl) ?_
                refine lv_dup hx hb dX8_next_272 rfl ?_
                refine va_get (D := D) (ci := 10) (v := .int Y2) (C := RX8) (T := TX8) (N := 37) hx hb hts in_X8 hown hg.1 hP 0 rfl rfl 8 (Nat.le_of_ble_eq_true rfl) (hts _ q1149) (fun _ h9 => h9) rfl dX8_next_273 ?_
                refine lv_iconst (v := 1) hx hb dX8_next_276 ci_1 ?_
                refine lv_iadd hx hb dX8_next_277 ?_
                refine lv_topi (fun x319 ex319 => ?_)
                refine va_put (D := D) (ci := 10) (v := .int x319) (C := RX8) (T := TX8) (N := 37) hx hb hts in_X8 tyX8 tyX8_ok nmX8 hown hg.1 hP hD hS 0 rfl rfl 8 (Nat.le_of_ble_eq_true rfl) (hts _ q1149) (fun _ h9 => h9) rfl ftX8_8 rfl rfl (Nat.le_of_ble_eq_true rfl) dX8_next_278 (fun H locs hP hD hS => ?_)
                replace hP : va_P D vwCl [(o, eMM r mv fr (upd (upd (upd (upd I 10 Y2) 9 4) 11 u15) 8 x319) L), ((r 5), aB k 700 tp)] H := hP
                replace hD : va_D A [(o, eMM r mv fr (upd (upd (upd (upd I 10 Y2) 9 4) 11 u15) 8 x319) L), ((r 5), aB k 700 tp)] := hD
                exact Jn17 (0, x319, 4, u15, (I 12), (L 15)) _ _ _ (by subst ex319; subst eu314; subst eu312; exact Eq.symm (Eq.trans (if_neg c311) (Eq.trans (if_pos c313) (Eq.trans (if_pos c315) (Eq.trans (if_neg c316) (Eq.trans (if_pos c318) (rfl))))))) hP hD hS (lv_sub hl [0, 1, 2] rfl)
          · refine lv_aload_n hx hb dX8_next_173 rfl (lv_at hl 2 rfl) ?_
            refine lv_iconst (v := 0) hx hb dX8_next_174 ci_0 ?_
            refine va_put (D := D) (ci := 10) (v := .int 0) (C := RX8) (T := TX8) (N := 37) hx hb hts in_X8 tyX8 tyX8_ok nmX8 hown hg.1 hP hD hS 0 rfl rfl 12 (Nat.le_of_ble_eq_true rfl) (hts _ q1153) (fun _ h9 => h9) rfl ftX8_12 rfl rfl (Nat.le_of_ble_eq_true rfl) dX8_next_175 (fun H locs hP hD hS => ?_)
            replace hP : va_P D vwCl [(o, eMM r mv fr (upd (upd (upd (upd (upd I 8 Y2) 10 Y2) 9 0) 11 0) 12 0) L), ((r 5), aB k 700 tp)] H := hP
            replace hD : va_D A [(o, eMM r mv fr (upd (upd (upd (upd (upd I 8 Y2) 10 Y2) 9 0) 11 0) 12 0) L), ((r 5), aB k 700 tp)] := hD
            have Jx320 : ∀ (Y320 : (Int32) × (Int32) × (Int32)) (H : Heap) (locs : List Loc) (ls : Array Slot), Y320 = f_X8_next_l178 I tp Y2 (zj + 1) (0, Y2, 0) → atz zj Y320.2.1 → va_P D vwCl [(o, eMM r mv fr (upd (upd (upd (upd (upd I 10 Y2) 9 0) 11 0) 8 Y320.2.1) 12 Y320.2.2) L), ((r 5), aB k 700 tp)] H → va_D A [(o, eMM r mv fr (upd (upd (upd (upd (upd I 10 Y2) 9 0) 11 0) 8 Y320.2.1) 12 Y320.2.2) L), ((r 5), aB k 700 tp)] → va_S A s.heap H locs → lv_has ls 3 [(2, .int Y320.1), (1, .int u15), (0, .ref o)] → W p l e rm_X8_next s m ([.ref o] : List Value).toArray below meth c H locs 0 0 (MQ below (q_X8_next D k o r mv fr I L tp zj A) ([.ref o] : List Value).toArray s 0 0 A) (F0 m 236 ls []) := by
              intro Y320 H locs ls eY320 hE320 hP hD hS hl
              refine lv_iload_n hx hb dX8_next_236 rfl (lv_at hl 0 rfl) ?_
              refine lv_iconst (v := 3) hx hb dX8_next_237 ci_3 ?_
              refine lv_icmp_gt (tgt := 281) hx hb dX8_next_238 (by decide) (fun c373 => ?_) (fun c373 => ?_)
              · exact Jn17 (Y320.1, Y320.2.1, 0, 0, Y320.2.2, (L 15)) _ _ _ (by subst eY320; subst eu314; subst eu312; exact Eq.symm (Eq.trans (if_neg c311) (Eq.trans (if_pos c313) (Eq.trans (if_neg c315) (Eq.trans (if_pos c373) (rfl)))))) hP hD hS (lv_sub hl [0, 1, 2] rfl)
              · refine lv_aload_n hx hb dX8_next_241 rfl (lv_at hl 2 rfl) ?_
                refine lv_iconst (v := 3) hx hb dX8_next_242 ci_3 ?_
                refine va_put (D := D) (ci := 10) (v := .int 3) (C := RX8) (T := TX8) (N := 37) hx hb hts in_X8 tyX8 tyX8_ok nmX8 hown hg.1 hP hD hS 0 rfl rfl 9 (Nat.le_of_ble_eq_true rfl) (hts _ q1150) (fun _ h9 => h9) rfl ftX8_9 rfl rfl (Nat.le_of_ble_eq_true rfl) dX8_next_243 (fun H locs hP hD hS => ?_)
                replace hP : va_P D vwCl [(o, eMM r mv fr (upd (upd (upd (upd (upd I 10 Y2) 11 0) 8 Y320.2.1) 12 Y320.2.2) 9 3) L), ((r 5), aB k 700 tp)] H := hP
                replace hD : va_D A [(o, eMM r mv fr (upd (upd (upd (upd (upd I 10 Y2) 11 0) 8 Y320.2.1) 12 Y320.2.2) 9 3) L), ((r 5), aB k 700 tp)] := hD
                refine lv_goto (tgt := 281) hx hb dX8_next_246 (by decide) ?_
                exact Jn17 (Y320.1, Y320.2.1, 3, 0, Y320.2.2, (L 15)) _ _ _ (by subst eY320; subst eu314; subst eu312; exact Eq.symm (Eq.trans (if_neg c311) (Eq.trans (if_pos c313) (Eq.trans (if_neg c315) (Eq.trans (if_neg c373) (rfl)))))) hP hD hS (lv_sub hl [0, 1, 2] rfl)
            have loop320 : ∀ (n320 : Nat) (X320 : (Int32) × (Int32) × (Int32)) (H : Heap) (locs : List Loc) (ls : Array Slot), f_X8_next_l178 I tp Y2 n320 X320 = f_X8_next_l178 I tp Y2 (zj + 1) (0, Y2, 0) → (atz zj X320.2.1 ∧ zj - X320.2.1.toNatClampNeg < n320) → va_P D vwCl [(o, eMM r mv fr (upd (upd (upd (upd (upd I 10 Y2) 9 0) 11 0) 8 X320.2.1) 12 X320.2.2) L), ((r 5), aB k 700 tp)] H → va_D A [(o, eMM r mv fr (upd (upd (upd (upd (upd I 10 Y2) 9 0) 11 0) 8 X320.2.1) 12 X320.2.2) L), ((r 5), aB k 700 tp)] → va_S A s.heap H locs → lv_has ls 3 [(2, .int X320.1), (1, .int u15), (0, .ref o)] → W p l e rm_X8_next s m ([.ref o] : List Value).toArray below meth c H locs 0 0 (MQ below (q_X8_next D k o r mv fr I L tp zj A) ([.ref o] : List Value).toArray s 0 0 A) (F0 m 178 ls []) := by
              intro n320
              induction n320 with
              | zero => intro X320 H locs ls eX320 hv320; exact absurd (by have h_ := hv320.2; omega) (fun h => h)
              | succ n320 ih320 =>
                intro X320 H locs ls eX320 hv320 hP hD hS hl
                refine lv_aload_n hx hb dX8_next_178 rfl (lv_at hl 2 rfl) ?_
                refine lv_aload_n hx hb dX8_next_179 rfl (lv_at hl 2 rfl) ?_
                refine va_get (D := D) (ci := 10) (v := .int X320.2.1) (C := RX8) (T := TX8) (N := 37) hx hb hts in_X8 hown hg.1 hP 0 rfl rfl 8 (Nat.le_of_ble_eq_true rfl) (hts _ q1149) (fun _ h9 => h9) rfl dX8_next_180 ?_
                refine xc_i (wc := [(o, eMM r mv fr (upd (upd (upd (upd (upd I 10 Y2) 9 0) 11 0) 8 X320.2.1) 12 X320.2.2) L), ((r 5), aB k 700 tp)]) (wr := []) hP hD hS hA [0, 1] [] rfl rfl rfl (by decide) (xrV ⟨hx, hb, hml, hown, hts⟩ hg (m_X8_byteAt l D k _ o r mv fr (upd (upd (upd (upd (upd I 10 Y2) 9 0) 11 0) 8 X320.2.1) 12 X320.2.2) L tp X320.2.1 X320.2.1.toNatClampNeg zj hv320.1.1 (by have := hv320.1.2; omega) hzj hz7) hP hD [0, 1] rfl rfl trivial (ci := 10) (q0 := 0) rfl rfl rfl q1346 q1348 qs41 q93 q1349 xo_X8_byteAt ⟨rfl, rfl⟩ ⟨Nat.le_of_ble_eq_true rfl, Nat.le_of_ble_eq_true rfl⟩ hl.1 (Nat.le_of_ble_eq_true rfl) dX8_next_183 ⟨Nat.le_of_ble_eq_true rfl, Nat.le_of_ble_eq_true rfl⟩ rfl) (fun u374 r_ H locs hw hP hD hS hk => ?_)
                obtain ⟨rfl, eu374⟩ := hw
                replace hP : va_P D vwCl [(o, eMM r mv fr (upd (upd (upd (upd (upd I 10 Y2) 9 0) 11 0) 8 X320.2.1) 12 X320.2.2) L), ((r 5), aB k 700 tp)] H := hP.sub [0, 1] rfl
                replace hD : va_D A [(o, eMM r mv fr (upd (upd (upd (upd (upd I 10 Y2) 9 0) 11 0) 8 X320.2.1) 12 X320.2.2) L), ((r 5), aB k 700 tp)] := hD.sub [0, 1] (by decide) rfl
                refine xc_i (wc := []) (wr := [(o, eMM r mv fr (upd (upd (upd (upd (upd I 10 Y2) 9 0) 11 0) 8 X320.2.1) 12 X320.2.2) L), ((r 5), aB k 700 tp)]) hP hD hS hA [] [0, 1] rfl rfl rfl (by decide) (xrS ⟨hx, hb, hml, hown, hts⟩ hg (m_X8_isDigit l D k _ u374) hP hD [] rfl rfl trivial q1354 q1355 q93 q1356 xo_X8_isDigit ⟨rfl, rfl⟩ ⟨Nat.le_of_ble_eq_true rfl, Nat.le_of_ble_eq_true rfl⟩ hl.1 (Nat.le_of_ble_eq_true rfl) dX8_next_186 ⟨Nat.le_of_ble_eq_true rfl, Nat.le_of_ble_eq_true rfl⟩ rfl) (fun u375 r_ H locs hw hP hD hS hk => ?_)
                obtain ⟨rfl, eu375, bu375⟩ := hw
                replace hP : va_P D vwCl [(o, eMM r mv fr (upd (upd (upd (upd (upd I 10 Y2) 9 0) 11 0) 8 X320.2.1) 12 X320.2.2) L), ((r 5), aB k 700 tp)] H := hP.sub [0, 1] rfl
                replace hD : va_D A [(o, eMM r mv fr (upd (upd (upd (upd (upd I 10 Y2) 9 0) 11 0) 8 X320.2.1) 12 X320.2.2) L), ((r 5), aB k 700 tp)] := hD.sub [0, 1] (by decide) rfl
                refine lv_if_eq (tgt := 236) hx hb dX8_next_189 (by decide) (fun c376 => ?_) (fun c376 => ?_)
                · exact Jx320 (X320.1, X320.2.1, X320.2.2) _ _ _ (Eq.trans (by subst eu375; subst eu374; exact Eq.symm (Eq.trans (if_pos c376) (rfl))) eX320) hv320.1 hP hD hS (lv_sub hl [0, 1, 2] rfl)
                · have hlt := ba_in (fun h => di_ne (fun h2 => c376 (eu375.trans h2)) (eu374.trans h)) hv320.1.1 hzj (by have := hv320.1.2; omega)
                  refine lv_iload_n hx hb dX8_next_192 rfl (lv_at hl 0 rfl) ?_
                  refine lv_iconst (v := 3) hx hb dX8_next_193 ci_3 ?_
                  have Jn21 : ∀ (v383 : (Int32)) (H : Heap) (locs : List Loc) (ls : Array Slot), v383 = f_X8_next_j21 I tp Y2 X320 → va_P D vwCl [(o, eMM r mv fr (upd (upd (upd (upd (upd I 10 Y2) 9 0) 11 0) 8 X320.2.1) 12 v383) L), ((r 5), aB k 700 tp)] H → va_D A [(o, eMM r mv fr (upd (upd (upd (upd (upd I 10 Y2) 9 0) 11 0) 8 X320.2.1) 12 v383) L), ((r 5), aB k 700 tp)] → va_S A s.heap H locs → lv_has ls 3 [(2, .int X320.1), (1, .int u15), (0, .ref o)] → W p l e rm_X8_next s m ([.ref o] : List Value).toArray below meth c H locs 0 0 (MQ below (q_X8_next D k o r mv fr I L tp zj A) ([.ref o] : List Value).toArray s 0 0 A) (F0 m 220 ls []) := by
                    intro v383 H locs ls ev383 hP hD hS hl
                    obtain ⟨x384, ex384⟩ : ∃ z : Int32, z = X320.1 + 1 := ⟨_, rfl⟩
                    refine lv_iinc (v := x384) (lv' := [(2, .int x384), (1, .int u15), (0, .ref o)]) hx hb dX8_next_220 hl (k := 0) rfl (by rw [ex384, ci_1]) (Nat.le_of_ble_eq_true rfl) rfl (fun ls hl => ?_)
                    refine lv_aload_n hx hb dX8_next_223 rfl (lv_at hl 2 rfl) ?_
                    refine lv_dup hx hb dX8_next_224 rfl ?_
                    refine va_get (D := D) (ci := 10) (v := .int X320.2.1) (C := RX8) (T := TX8) (N := 37) hx hb hts in_X8 hown hg.1 hP 0 rfl rfl 8 (Nat.le_of_ble_eq_true rfl) (hts _ q1149) (fun _ h9 => h9) rfl dX8_next_225 ?_
                    refine lv_iconst (v := 1) hx hb dX8_next_228 ci_1 ?_
                    refine lv_iadd hx hb dX8_next_229 ?_
                    refine lv_topi (fun x385 ex385 => ?_)
                    refine va_put (D := D) (ci := 10) (v := .int x385) (C := RX8) (T := TX8) (N := 37) hx hb hts in_X8 tyX8 tyX8_ok nmX8 hown hg.1 hP hD hS 0 rfl rfl 8 (Nat.le_of_ble_eq_true rfl) (hts _ q1149) (fun _ h9 => h9) rfl ftX8_8 rfl rfl (Nat.le_of_ble_eq_true rfl) dX8_next_230 (fun H locs hP hD hS => ?_)
                    replace hP : va_P D vwCl [(o, eMM r mv fr (upd (upd (upd (upd (upd I 10 Y2) 9 0) 11 0) 12 v383) 8 x385) L), ((r 5), aB k 700 tp)] H := hP
                    replace hD : va_D A [(o, eMM r mv fr (upd (upd (upd (upd (upd I 10 Y2) 9 0) 11 0) 12 v383) 8 x385) L), ((r 5), aB k 700 tp)] := hD
                    refine lv_goto (tgt := 178) hx hb dX8_next_233 (by decide) ?_
                    exact ih320 (x384, x385, v383) _ _ _ (Eq.trans (by subst ex385; subst ex384; subst ev383; subst eu375; subst eu374; exact Eq.symm (Eq.trans (if_neg c376) (rfl))) eX320) (by show atz zj x385 ∧ zj - (x385).toNatClampNeg < n320; rw [ex385]; exact atz.step hv320 hlt hz7) hP hD hS (lv_sub hl [0, 1, 2] rfl)
                  refine lv_icmp_ge (tgt := 220) hx hb dX8_next_194 (by decide) (fun c386 => ?_) (fun c386 => ?_)
                  · exact Jn21 X320.2.2 _ _ _ (by exact Eq.symm (Eq.trans (if_pos c386) (rfl))) hP hD hS (lv_sub hl [0, 1, 2] rfl)
                  · refine lv_aload_n hx hb dX8_next_197 rfl (lv_at hl 2 rfl) ?_
                    refine lv_bipush (v := 10) hx hb dX8_next_198 cb_10 ?_
                    refine lv_aload_n hx hb dX8_next_200 rfl (lv_at hl 2 rfl) ?_
                    refine va_get (D := D) (ci := 10) (v := .int X320.2.2) (C := RX8) (T := TX8) (N := 37) hx hb hts in_X8 hown hg.1 hP 0 rfl rfl 12 (Nat.le_of_ble_eq_true rfl) (hts _ q1153) (fun _ h9 => h9) rfl dX8_next_201 ?_
                    refine lv_imul hx hb dX8_next_204 ?_
                    refine lv_aload_n hx hb dX8_next_205 rfl (lv_at hl 2 rfl) ?_
                    refine lv_aload_n hx hb dX8_next_206 rfl (lv_at hl 2 rfl) ?_
                    refine va_get (D := D) (ci := 10) (v := .int X320.2.1) (C := RX8) (T := TX8) (N := 37) hx hb hts in_X8 hown hg.1 hP 0 rfl rfl 8 (Nat.le_of_ble_eq_true rfl) (hts _ q1149) (fun _ h9 => h9) rfl dX8_next_207 ?_
                    refine xc_i (wc := [(o, eMM r mv fr (upd (upd (upd (upd (upd I 10 Y2) 9 0) 11 0) 8 X320.2.1) 12 X320.2.2) L), ((r 5), aB k 700 tp)]) (wr := []) hP hD hS hA [0, 1] [] rfl rfl rfl (by decide) (xrV ⟨hx, hb, hml, hown, hts⟩ hg (m_X8_byteAt l D k _ o r mv fr (upd (upd (upd (upd (upd I 10 Y2) 9 0) 11 0) 8 X320.2.1) 12 X320.2.2) L tp X320.2.1 X320.2.1.toNatClampNeg zj hv320.1.1 (by have := hv320.1.2; omega) hzj hz7) hP hD [0, 1] rfl rfl trivial (ci := 10) (q0 := 0) rfl rfl rfl q1346 q1348 qs41 q93 q1349 xo_X8_byteAt ⟨rfl, rfl⟩ ⟨Nat.le_of_ble_eq_true rfl, Nat.le_of_ble_eq_true rfl⟩ hl.1 (Nat.le_of_ble_eq_true rfl) dX8_next_210 ⟨Nat.le_of_ble_eq_true rfl, Nat.le_of_ble_eq_true rfl⟩ rfl) (fun u387 r_ H locs hw hP hD hS hk => ?_)
                    obtain ⟨rfl, eu387⟩ := hw
                    replace hP : va_P D vwCl [(o, eMM r mv fr (upd (upd (upd (upd (upd I 10 Y2) 9 0) 11 0) 8 X320.2.1) 12 X320.2.2) L), ((r 5), aB k 700 tp)] H := hP.sub [0, 1] rfl
                    replace hD : va_D A [(o, eMM r mv fr (upd (upd (upd (upd (upd I 10 Y2) 9 0) 11 0) 8 X320.2.1) 12 X320.2.2) L), ((r 5), aB k 700 tp)] := hD.sub [0, 1] (by decide) rfl
                    refine lv_iadd hx hb dX8_next_213 ?_
                    refine lv_bipush (v := 48) hx hb dX8_next_214 cb_48 ?_
                    refine lv_isub hx hb dX8_next_216 ?_
                    refine lv_topi (fun x388 ex388 => ?_)
                    refine va_put (D := D) (ci := 10) (v := .int x388) (C := RX8) (T := TX8) (N := 37) hx hb hts in_X8 tyX8 tyX8_ok nmX8 hown hg.1 hP hD hS 0 rfl rfl 12 (Nat.le_of_ble_eq_true rfl) (hts _ q1153) (fun _ h9 => h9) rfl ftX8_12 rfl rfl (Nat.le_of_ble_eq_true rfl) dX8_next_217 (fun H locs hP hD hS => ?_)
                    replace hP : va_P D vwCl [(o, eMM r mv fr (upd (upd (upd (upd (upd I 10 Y2) 9 0) 11 0) 8 X320.2.1) 12 x388) L), ((r 5), aB k 700 tp)] H := hP
                    replace hD : va_D A [(o, eMM r mv fr (upd (upd (upd (upd (upd I 10 Y2) 9 0) 11 0) 8 X320.2.1) 12 x388) L), ((r 5), aB k 700 tp)] := hD
                    exact Jn21 x388 _ _ _ (by subst ex388; subst eu387; exact Eq.symm (Eq.trans (if_neg c386) (rfl))) hP hD hS (lv_sub hl [0, 1, 2] rfl)
            exact loop320 (zj + 1) (0, Y2, 0) _ _ _ rfl ⟨hE2, by omega⟩ hP hD hS (lv_sub hl [0, 1, 2] rfl)
        · refine lv_aload_n hx hb dX8_next_84 rfl (lv_at hl 2 rfl) ?_
          refine lv_lconst (v := 0) hx hb dX8_next_85 cl_0 ?_
          refine va_put (D := D) (ci := 10) (v := .long 0) (C := RX8) (T := TX8) (N := 37) hx hb hts in_X8 tyX8 tyX8_ok nmX8 hown hg.1 hP hD hS 0 rfl rfl 15 (Nat.le_of_ble_eq_true rfl) (hts _ q1156) (fun _ h9 => h9) rfl ftX8_15 rfl rfl (Nat.le_of_ble_eq_true rfl) dX8_next_86 (fun H locs hP hD hS => ?_)
          replace hP : va_P D vwCl [(o, eMM r mv fr (upd (upd (upd (upd I 8 Y2) 10 Y2) 9 0) 11 0) (vp_updL L 15 0)), ((r 5), aB k 700 tp)] H := hP
          replace hD : va_D A [(o, eMM r mv fr (upd (upd (upd (upd I 8 Y2) 10 Y2) 9 0) 11 0) (vp_updL L 15 0)), ((r 5), aB k 700 tp)] := hD
          have Jx389 : ∀ (Y389 : (Int32) × (Int32) × (Int64)) (H : Heap) (locs : List Loc) (ls : Array Slot), Y389 = f_X8_next_l89 I tp Y2 (zj + 1) (0, Y2, 0) → atz zj Y389.2.1 → va_P D vwCl [(o, eMM r mv fr (upd (upd (upd (upd I 10 Y2) 9 0) 11 0) 8 Y389.2.1) (vp_updL L 15 Y389.2.2)), ((r 5), aB k 700 tp)] H → va_D A [(o, eMM r mv fr (upd (upd (upd (upd I 10 Y2) 9 0) 11 0) 8 Y389.2.1) (vp_updL L 15 Y389.2.2)), ((r 5), aB k 700 tp)] → va_S A s.heap H locs → lv_has ls 3 [(2, .int Y389.1), (1, .int u15), (0, .ref o)] → W p l e rm_X8_next s m ([.ref o] : List Value).toArray below meth c H locs 0 0 (MQ below (q_X8_next D k o r mv fr I L tp zj A) ([.ref o] : List Value).toArray s 0 0 A) (F0 m 152 ls []) := by
            intro Y389 H locs ls eY389 hE389 hP hD hS hl
            refine lv_iload_n hx hb dX8_next_152 rfl (lv_at hl 0 rfl) ?_
            refine lv_bipush (v := 8) hx hb dX8_next_153 cb_8 ?_
            refine lv_icmp_gt (tgt := 281) hx hb dX8_next_155 (by decide) (fun c442 => ?_) (fun c442 => ?_)
            · exact Jn17 (Y389.1, Y389.2.1, 0, 0, (I 12), Y389.2.2) _ _ _ (by subst eY389; subst eu312; exact Eq.symm (Eq.trans (if_neg c311) (Eq.trans (if_neg c313) (Eq.trans (if_pos c442) (rfl))))) hP hD hS (lv_sub hl [0, 1, 2] rfl)
            · refine lv_aload_n hx hb dX8_next_158 rfl (lv_at hl 2 rfl) ?_
              refine lv_iconst (v := 2) hx hb dX8_next_159 ci_2 ?_
              refine va_put (D := D) (ci := 10) (v := .int 2) (C := RX8) (T := TX8) (N := 37) hx hb hts in_X8 tyX8 tyX8_ok nmX8 hown hg.1 hP hD hS 0 rfl rfl 9 (Nat.le_of_ble_eq_true rfl) (hts _ q1150) (fun _ h9 => h9) rfl ftX8_9 rfl rfl (Nat.le_of_ble_eq_true rfl) dX8_next_160 (fun H locs hP hD hS => ?_)
              replace hP : va_P D vwCl [(o, eMM r mv fr (upd (upd (upd (upd I 10 Y2) 11 0) 8 Y389.2.1) 9 2) (vp_updL L 15 Y389.2.2)), ((r 5), aB k 700 tp)] H := hP
              replace hD : va_D A [(o, eMM r mv fr (upd (upd (upd (upd I 10 Y2) 11 0) 8 Y389.2.1) 9 2) (vp_updL L 15 Y389.2.2)), ((r 5), aB k 700 tp)] := hD
              refine lv_goto (tgt := 281) hx hb dX8_next_163 (by decide) ?_
              exact Jn17 (Y389.1, Y389.2.1, 2, 0, (I 12), Y389.2.2) _ _ _ (by subst eY389; subst eu312; exact Eq.symm (Eq.trans (if_neg c311) (Eq.trans (if_neg c313) (Eq.trans (if_neg c442) (rfl))))) hP hD hS (lv_sub hl [0, 1, 2] rfl)
          have loop389 : ∀ (n389 : Nat) (X389 : (Int32) × (Int32) × (Int64)) (H : Heap) (locs : List Loc) (ls : Array Slot), f_X8_next_l89 I tp Y2 n389 X389 = f_X8_next_l89 I tp Y2 (zj + 1) (0, Y2, 0) → (atz zj X389.2.1 ∧ zj - X389.2.1.toNatClampNeg < n389) → va_P D vwCl [(o, eMM r mv fr (upd (upd (upd (upd I 10 Y2) 9 0) 11 0) 8 X389.2.1) (vp_updL L 15 X389.2.2)), ((r 5), aB k 700 tp)] H → va_D A [(o, eMM r mv fr (upd (upd (upd (upd I 10 Y2) 9 0) 11 0) 8 X389.2.1) (vp_updL L 15 X389.2.2)), ((r 5), aB k 700 tp)] → va_S A s.heap H locs → lv_has ls 3 [(2, .int X389.1), (1, .int u15), (0, .ref o)] → W p l e rm_X8_next s m ([.ref o] : List Value).toArray below meth c H locs 0 0 (MQ below (q_X8_next D k o r mv fr I L tp zj A) ([.ref o] : List Value).toArray s 0 0 A) (F0 m 89 ls []) := by
            intro n389
            induction n389 with
            | zero => intro X389 H locs ls eX389 hv389; exact absurd (by have h_ := hv389.2; omega) (fun h => h)
            | succ n389 ih389 =>
              intro X389 H locs ls eX389 hv389 hP hD hS hl
              refine lv_aload_n hx hb dX8_next_89 rfl (lv_at hl 2 rfl) ?_
              refine lv_aload_n hx hb dX8_next_90 rfl (lv_at hl 2 rfl) ?_
              refine va_get (D := D) (ci := 10) (v := .int X389.2.1) (C := RX8) (T := TX8) (N := 37) hx hb hts in_X8 hown hg.1 hP 0 rfl rfl 8 (Nat.le_of_ble_eq_true rfl) (hts _ q1149) (fun _ h9 => h9) rfl dX8_next_91 ?_
              refine xc_i (wc := [(o, eMM r mv fr (upd (upd (upd (upd I 10 Y2) 9 0) 11 0) 8 X389.2.1) (vp_updL L 15 X389.2.2)), ((r 5), aB k 700 tp)]) (wr := []) hP hD hS hA [0, 1] [] rfl rfl rfl (by decide) (xrV ⟨hx, hb, hml, hown, hts⟩ hg (m_X8_byteAt l D k _ o r mv fr (upd (upd (upd (upd I 10 Y2) 9 0) 11 0) 8 X389.2.1) (vp_updL L 15 X389.2.2) tp X389.2.1 X389.2.1.toNatClampNeg zj hv389.1.1 (by have := hv389.1.2; omega) hzj hz7) hP hD [0, 1] rfl rfl trivial (ci := 10) (q0 := 0) rfl rfl rfl q1346 q1348 qs41 q93 q1349 xo_X8_byteAt ⟨rfl, rfl⟩ ⟨Nat.le_of_ble_eq_true rfl, Nat.le_of_ble_eq_true rfl⟩ hl.1 (Nat.le_of_ble_eq_true rfl) dX8_next_94 ⟨Nat.le_of_ble_eq_true rfl, Nat.le_of_ble_eq_true rfl⟩ rfl) (fun u443 r_ H locs hw hP hD hS hk => ?_)
              obtain ⟨rfl, eu443⟩ := hw
              replace hP : va_P D vwCl [(o, eMM r mv fr (upd (upd (upd (upd I 10 Y2) 9 0) 11 0) 8 X389.2.1) (vp_updL L 15 X389.2.2)), ((r 5), aB k 700 tp)] H := hP.sub [0, 1] rfl
              replace hD : va_D A [(o, eMM r mv fr (upd (upd (upd (upd I 10 Y2) 9 0) 11 0) 8 X389.2.1) (vp_updL L 15 X389.2.2)), ((r 5), aB k 700 tp)] := hD.sub [0, 1] (by decide) rfl
              refine xc_i (wc := []) (wr := [(o, eMM r mv fr (upd (upd (upd (upd I 10 Y2) 9 0) 11 0) 8 X389.2.1) (vp_updL L 15 X389.2.2)), ((r 5), aB k 700 tp)]) hP hD hS hA [] [0, 1] rfl rfl rfl (by decide) (xrS ⟨hx, hb, hml, hown, hts⟩ hg (m_X8_isLetter l D k _ u443) hP hD [] rfl rfl trivial q1350 q1351 q93 q1352 xo_X8_isLetter ⟨rfl, rfl⟩ ⟨Nat.le_of_ble_eq_true rfl, Nat.le_of_ble_eq_true rfl⟩ hl.1 (Nat.le_of_ble_eq_true rfl) dX8_next_97 ⟨Nat.le_of_ble_eq_true rfl, Nat.le_of_ble_eq_true rfl⟩ rfl) (fun u444 r_ H locs hw hP hD hS hk => ?_)
              obtain ⟨rfl, eu444, bu444⟩ := hw
              replace hP : va_P D vwCl [(o, eMM r mv fr (upd (upd (upd (upd I 10 Y2) 9 0) 11 0) 8 X389.2.1) (vp_updL L 15 X389.2.2)), ((r 5), aB k 700 tp)] H := hP.sub [0, 1] rfl
              replace hD : va_D A [(o, eMM r mv fr (upd (upd (upd (upd I 10 Y2) 9 0) 11 0) 8 X389.2.1) (vp_updL L 15 X389.2.2)), ((r 5), aB k 700 tp)] := hD.sub [0, 1] (by decide) rfl
              refine lv_if_eq (tgt := 152) hx hb dX8_next_100 (by decide) (fun c445 => ?_) (fun c445 => ?_)
              · exact Jx389 (X389.1, X389.2.1, X389.2.2) _ _ _ (Eq.trans (by subst eu444; subst eu443; exact Eq.symm (Eq.trans (if_pos c445) (rfl))) eX389) hv389.1 hP hD hS (lv_sub hl [0, 1, 2] rfl)
              · have hlt := ba_in (fun h => le_ne (fun h2 => c445 (eu444.trans h2)) (eu443.trans h)) hv389.1.1 hzj (by have := hv389.1.2; omega)
                refine lv_iload_n hx hb dX8_next_103 rfl (lv_at hl 0 rfl) ?_
                refine lv_bipush (v := 8) hx hb dX8_next_104 cb_8 ?_
                have Jn25 : ∀ (v452 : (Int64)) (H : Heap) (locs : List Loc) (ls : Array Slot), v452 = f_X8_next_j25 I tp Y2 X389 → va_P D vwCl [(o, eMM r mv fr (upd (upd (upd (upd I 10 Y2) 9 0) 11 0) 8 X389.2.1) (vp_updL L 15 v452)), ((r 5), aB k 700 tp)] H → va_D A [(o, eMM r mv fr (upd (upd (upd (upd I 10 Y2) 9 0) 11 0) 8 X389.2.1) (vp_updL L 15 v452)), ((r 5), aB k 700 tp)] → va_S A s.heap H locs → lv_has ls 3 [(2, .int X389.1), (1, .int u15), (0, .ref o)] → W p l e rm_X8_next s m ([.ref o] : List Value).toArray below meth c H locs 0 0 (MQ below (q_X8_next D k o r mv fr I L tp zj A) ([.ref o] : List Value).toArray s 0 0 A) (F0 m 136 ls []) := by
                  intro v452 H locs ls ev452 hP hD hS hl
                  obtain ⟨x453, ex453⟩ : ∃ z : Int32, z = X389.1 + 1 := ⟨_, rfl⟩
                  refine lv_iinc (v := x453) (lv' := [(2, .int x453), (1, .int u15), (0, .ref o)]) hx hb dX8_next_136 hl (k := 0) rfl (by rw [ex453, ci_1]) (Nat.le_of_ble_eq_true rfl) rfl (fun ls hl => ?_)
                  refine lv_aload_n hx hb dX8_next_139 rfl (lv_at hl 2 rfl) ?_
                  refine lv_dup hx hb dX8_next_140 rfl ?_
                  refine va_get (D := D) (ci := 10) (v := .int X389.2.1) (C := RX8) (T := TX8) (N := 37) hx hb hts in_X8 hown hg.1 hP 0 rfl rfl 8 (Nat.le_of_ble_eq_true rfl) (hts _ q1149) (fun _ h9 => h9) rfl dX8_next_141 ?_
                  refine lv_iconst (v := 1) hx hb dX8_next_144 ci_1 ?_
                  refine lv_iadd hx hb dX8_next_145 ?_
                  refine lv_topi (fun x454 ex454 => ?_)
                  refine va_put (D := D) (ci := 10) (v := .int x454) (C := RX8) (T := TX8) (N := 37) hx hb hts in_X8 tyX8 tyX8_ok nmX8 hown hg.1 hP hD hS 0 rfl rfl 8 (Nat.le_of_ble_eq_true rfl) (hts _ q1149) (fun _ h9 => h9) rfl ftX8_8 rfl rfl (Nat.le_of_ble_eq_true rfl) dX8_next_146 (fun H locs hP hD hS => ?_)
                  replace hP : va_P D vwCl [(o, eMM r mv fr (upd (upd (upd (upd I 10 Y2) 9 0) 11 0) 8 x454) (vp_updL L 15 v452)), ((r 5), aB k 700 tp)] H := hP
                  replace hD : va_D A [(o, eMM r mv fr (upd (upd (upd (upd I 10 Y2) 9 0) 11 0) 8 x454) (vp_updL L 15 v452)), ((r 5), aB k 700 tp)] := hD
                  refine lv_goto (tgt := 89) hx hb dX8_next_149 (by decide) ?_
                  exact ih389 (x453, x454, v452) _ _ _ (Eq.trans (by subst ex454; subst ex453; subst ev452; subst eu444; subst eu443; exact Eq.symm (Eq.trans (if_neg c445) (rfl))) eX389) (by show atz zj x454 ∧ zj - (x454).toNatClampNeg < n389; rw [ex454]; exact atz.step hv389 hlt hz7) hP hD hS (lv_sub hl [0, 1, 2] rfl)
                refine lv_icmp_ge (tgt := 136) hx hb dX8_next_106 (by decide) (fun c455 => ?_) (fun c455 => ?_)
                · exact Jn25 X389.2.2 _ _ _ (by exact Eq.symm (Eq.trans (if_pos c455) (rfl))) hP hD hS (lv_sub hl [0, 1, 2] rfl)
                · refine lv_aload_n hx hb dX8_next_109 rfl (lv_at hl 2 rfl) ?_
                  refine lv_ldc2 hx hb hown (hts _ q1353) dX8_next_110 ?_
                  refine lv_aload_n hx hb dX8_next_113 rfl (lv_at hl 2 rfl) ?_
                  refine va_get (D := D) (ci := 10) (v := .long X389.2.2) (C := RX8) (T := TX8) (N := 37) hx hb hts in_X8 hown hg.1 hP 0 rfl rfl 15 (Nat.le_of_ble_eq_true rfl) (hts _ q1156) (fun _ h9 => h9) rfl dX8_next_114 ?_
                  refine lv_lmul hx hb dX8_next_117 ?_
                  refine lv_aload_n hx hb dX8_next_118 rfl (lv_at hl 2 rfl) ?_
                  refine lv_aload_n hx hb dX8_next_119 rfl (lv_at hl 2 rfl) ?_
                  refine va_get (D := D) (ci := 10) (v := .int X389.2.1) (C := RX8) (T := TX8) (N := 37) hx hb hts in_X8 hown hg.1 hP 0 rfl rfl 8 (Nat.le_of_ble_eq_true rfl) (hts _ q1149) (fun _ h9 => h9) rfl dX8_next_120 ?_
                  refine xc_i (wc := [(o, eMM r mv fr (upd (upd (upd (upd I 10 Y2) 9 0) 11 0) 8 X389.2.1) (vp_updL L 15 X389.2.2)), ((r 5), aB k 700 tp)]) (wr := []) hP hD hS hA [0, 1] [] rfl rfl rfl (by decide) (xrV ⟨hx, hb, hml, hown, hts⟩ hg (m_X8_byteAt l D k _ o r mv fr (upd (upd (upd (upd I 10 Y2) 9 0) 11 0) 8 X389.2.1) (vp_updL L 15 X389.2.2) tp X389.2.1 X389.2.1.toNatClampNeg zj hv389.1.1 (by have := hv389.1.2; omega) hzj hz7) hP hD [0, 1] rfl rfl trivial (ci := 10) (q0 := 0) rfl rfl rfl q1346 q1348 qs41 q93 q1349 xo_X8_byteAt ⟨rfl, rfl⟩ ⟨Nat.le_of_ble_eq_true rfl, Nat.le_of_ble_eq_true rfl⟩ hl.1 (Nat.le_of_ble_eq_true rfl) dX8_next_123 ⟨Nat.le_of_ble_eq_true rfl, Nat.le_of_ble_eq_true rfl⟩ rfl) (fun u456 r_ H locs hw hP hD hS hk => ?_)
                  obtain ⟨rfl, eu456⟩ := hw
                  replace hP : va_P D vwCl [(o, eMM r mv fr (upd (upd (upd (upd I 10 Y2) 9 0) 11 0) 8 X389.2.1) (vp_updL L 15 X389.2.2)), ((r 5), aB k 700 tp)] H := hP.sub [0, 1] rfl
                  replace hD : va_D A [(o, eMM r mv fr (upd (upd (upd (upd I 10 Y2) 9 0) 11 0) 8 X389.2.1) (vp_updL L 15 X389.2.2)), ((r 5), aB k 700 tp)] := hD.sub [0, 1] (by decide) rfl
                  refine lv_bipush (v := 97) hx hb dX8_next_126 cb_97 ?_
                  refine lv_isub hx hb dX8_next_128 ?_
                  refine lv_iconst (v := 1) hx hb dX8_next_129 ci_1 ?_
                  refine lv_iadd hx hb dX8_next_130 ?_
                  refine lv_i2l hx hb dX8_next_131 rfl ?_
                  refine lv_ladd hx hb dX8_next_132 ?_
                  refine lv_topl (fun x457 ex457 => ?_)
                  refine va_put (D := D) (ci := 10) (v := .long x457) (C := RX8) (T := TX8) (N := 37) hx hb hts in_X8 tyX8 tyX8_ok nmX8 hown hg.1 hP hD hS 0 rfl rfl 15 (Nat.le_of_ble_eq_true rfl) (hts _ q1156) (fun _ h9 => h9) rfl ftX8_15 rfl rfl (Nat.le_of_ble_eq_true rfl) dX8_next_133 (fun H locs hP hD hS => ?_)
                  replace hP : va_P D vwCl [(o, eMM r mv fr (upd (upd (upd (upd I 10 Y2) 9 0) 11 0) 8 X389.2.1) (vp_updL L 15 x457)), ((r 5), aB k 700 tp)] H := hP
                  replace hD : va_D A [(o, eMM r mv fr (upd (upd (upd (upd I 10 Y2) 9 0) 11 0) 8 X389.2.1) (vp_updL L 15 x457)), ((r 5), aB k 700 tp)] := hD
                  exact Jn25 x457 _ _ _ (by subst ex457; subst eu456; exact Eq.symm (Eq.trans (if_neg c455) (rfl))) hP hD hS (lv_sub hl [0, 1, 2] rfl)
          exact loop389 (zj + 1) (0, Y2, 0) _ _ _ rfl ⟨hE2, by omega⟩ hP hD hS (lv_sub hl [0, 1, 2] rfl)
      · refine lv_aload_n hx hb dX8_next_69 rfl (lv_at hl 2 rfl) ?_
        refine lv_iconst (v := 1) hx hb dX8_next_70 ci_1 ?_
        refine va_put (D := D) (ci := 10) (v := .int 1) (C := RX8) (T := TX8) (N := 37) hx hb hts in_X8 tyX8 tyX8_ok nmX8 hown hg.1 hP hD hS 0 rfl rfl 9 (Nat.le_of_ble_eq_true rfl) (hts _ q1150) (fun _ h9 => h9) rfl ftX8_9 rfl rfl (Nat.le_of_ble_eq_true rfl) dX8_next_71 (fun H locs hP hD hS => ?_)
        replace hP : va_P D vwCl [(o, eMM r mv fr (upd (upd (upd (upd I 8 Y2) 10 Y2) 11 0) 9 1) L), ((r 5), aB k 700 tp)] H := hP
        replace hD : va_D A [(o, eMM r mv fr (upd (upd (upd (upd I 8 Y2) 10 Y2) 11 0) 9 1) L), ((r 5), aB k 700 tp)] := hD
        refine lv_goto (tgt := 281) hx hb dX8_next_74 (by decide) ?_
        exact Jn17 (0, Y2, 1, 0, (I 12), (L 15)) _ _ _ (by exact Eq.symm (Eq.trans (if_pos c311) (rfl))) hP hD hS (lv_sub hl [0, 1, 2] rfl)
    have loop2 : ∀ (n2 : Nat) (X2 : (Int32)) (H : Heap) (locs : List Loc) (ls : Array Slot), f_X8_next_l9 I tp n2 X2 = f_X8_next_l9 I tp (zj + 1) (I 8) → (atz zj X2 ∧ zj - X2.toNatClampNeg < n2) → va_P D vwCl [(o, eMM r mv fr (upd I 8 X2) L), ((r 5), aB k 700 tp)] H → va_D A [(o, eMM r mv fr (upd I 8 X2) L), ((r 5), aB k 700 tp)] → va_S A s.heap H locs → lv_has ls 3 [(0, .ref o)] → W p l e rm_X8_next s m ([.ref o] : List Value).toArray below meth c H locs 0 0 (MQ below (q_X8_next D k o r mv fr I L tp zj A) ([.ref o] : List Value).toArray s 0 0 A) (F0 m 9 ls []) := by
      intro n2
      induction n2 with
      | zero => intro X2 H locs ls eX2 hv2; exact absurd (by have h_ := hv2.2; omega) (fun h => h)
      | succ n2 ih2 =>
        intro X2 H locs ls eX2 hv2 hP hD hS hl
        refine lv_aload_n hx hb dX8_next_9 rfl (lv_at hl 0 rfl) ?_
        refine lv_aload_n hx hb dX8_next_10 rfl (lv_at hl 0 rfl) ?_
        refine va_get (D := D) (ci := 10) (v := .int X2) (C := RX8) (T := TX8) (N := 37) hx hb hts in_X8 hown hg.1 hP 0 rfl rfl 8 (Nat.le_of_ble_eq_true rfl) (hts _ q1149) (fun _ h9 => h9) rfl dX8_next_11 ?_
        refine xc_i (wc := [(o, eMM r mv fr (upd I 8 X2) L), ((r 5), aB k 700 tp)]) (wr := []) hP hD hS hA [0, 1] [] rfl rfl rfl (by decide) (xrV ⟨hx, hb, hml, hown, hts⟩ hg (m_X8_byteAt l D k _ o r mv fr (upd I 8 X2) L tp X2 X2.toNatClampNeg zj hv2.1.1 (by have := hv2.1.2; omega) hzj hz7) hP hD [0, 1] rfl rfl trivial (ci := 10) (q0 := 0) rfl rfl rfl q1346 q1348 qs41 q93 q1349 xo_X8_byteAt ⟨rfl, rfl⟩ ⟨Nat.le_of_ble_eq_true rfl, Nat.le_of_ble_eq_true rfl⟩ hl.1 (Nat.le_of_ble_eq_true rfl) dX8_next_14 ⟨Nat.le_of_ble_eq_true rfl, Nat.le_of_ble_eq_true rfl⟩ rfl) (fun u458 r_ H locs hw hP hD hS hk => ?_)
        obtain ⟨rfl, eu458⟩ := hw
        replace hP : va_P D vwCl [(o, eMM r mv fr (upd I 8 X2) L), ((r 5), aB k 700 tp)] H := hP.sub [0, 1] rfl
        replace hD : va_D A [(o, eMM r mv fr (upd I 8 X2) L), ((r 5), aB k 700 tp)] := hD.sub [0, 1] (by decide) rfl
        refine lv_bipush (v := 32) hx hb dX8_next_17 cb_32 ?_
        refine lv_icmp_ne (tgt := 35) hx hb dX8_next_19 (by decide) (fun c459 => ?_) (fun c459 => ?_)
        · exact Jx2 X2 _ _ _ (Eq.trans (by subst eu458; exact Eq.symm (Eq.trans (if_neg c459) (rfl))) eX2) hv2.1 hP hD hS (lv_sub hl [0] rfl)
        · have hlt := ba_in (e32_ne (eu458.symm.trans c459)) hv2.1.1 hzj (by have := hv2.1.2; omega)
          refine lv_aload_n hx hb dX8_next_22 rfl (lv_at hl 0 rfl) ?_
          refine lv_dup hx hb dX8_next_23 rfl ?_
          refine va_get (D := D) (ci := 10) (v := .int X2) (C := RX8) (T := TX8) (N := 37) hx hb hts in_X8 hown hg.1 hP 0 rfl rfl 8 (Nat.le_of_ble_eq_true rfl) (hts _ q1149) (fun _ h9 => h9) rfl dX8_next_24 ?_
          refine lv_iconst (v := 1) hx hb dX8_next_27 ci_1 ?_
          refine lv_iadd hx hb dX8_next_28 ?_
          refine lv_topi (fun x460 ex460 => ?_)
          refine va_put (D := D) (ci := 10) (v := .int x460) (C := RX8) (T := TX8) (N := 37) hx hb hts in_X8 tyX8 tyX8_ok nmX8 hown hg.1 hP hD hS 0 rfl rfl 8 (Nat.le_of_ble_eq_true rfl) (hts _ q1149) (fun _ h9 => h9) rfl ftX8_8 rfl rfl (Nat.le_of_ble_eq_true rfl) dX8_next_29 (fun H locs hP hD hS => ?_)
          replace hP : va_P D vwCl [(o, eMM r mv fr (upd I 8 x460) L), ((r 5), aB k 700 tp)] H := hP
          replace hD : va_D A [(o, eMM r mv fr (upd I 8 x460) L), ((r 5), aB k 700 tp)] := hD
          refine lv_goto (tgt := 9) hx hb dX8_next_32 (by decide) ?_
          exact ih2 x460 _ _ _ (Eq.trans (by subst ex460; subst eu458; exact Eq.symm (Eq.trans (if_pos c459) (rfl))) eX2) (by show atz zj x460 ∧ zj - (x460).toNatClampNeg < n2; rw [ex460]; exact atz.step hv2 hlt hz7) hP hD hS (lv_sub hl [0] rfl)
    exact loop2 (zj + 1) (I 8) _ _ _ rfl ⟨hat, by omega⟩ hP hD hS (lv_sub hl [0] rfl)
  · exact xret_v hx hb hr hlocks (Nat.le_of_ble_eq_true rfl) (Nat.le_of_ble_eq_true rfl) hS.2.2 dX8_next_8 (fun t ht => ⟨⟨((I 8), (I 9), (I 10), (I 11), (I 12), (L 15)), rfl, (by exact Eq.symm (Eq.trans (if_pos c1) (rfl))), by rw [ht]; exact hP, hD⟩, hS.F ht⟩)
