set_option maxRecDepth 100000
def f_X1_bytes (I : Nat → Int32) (tp : Nat → Int32) (x : Int32) (tj : Nat) : Int32 × (Nat → Int32) :=
  let x1 := ((x >>> (24 &&& 31)).toInt8.toInt32)
  let f2 := upd tp tj (vp_nar .byte x1)
  let x3 := ((I 1) + 1)
  let x4 := ((x >>> (16 &&& 31)).toInt8.toInt32)
  let f5 := upd f2 (tj + 1) (vp_nar .byte x4)
  let x6 := (x3 + 1)
  let x7 := ((x >>> (8 &&& 31)).toInt8.toInt32)
  let f8 := upd f5 ((tj + 1) + 1) (vp_nar .byte x7)
  let x9 := (x6 + 1)
  let x10 := ((x >>> (0 &&& 31)).toInt8.toInt32)
  let f11 := upd f8 (((tj + 1) + 1) + 1) (vp_nar .byte x10)
  let x12 := (x9 + 1)
  (x12, f11)
abbrev q_X1_bytes (D : va_G) (k : KK) (o : Nat) (r : Nat → Nat) (I : Nat → Int32) (L : Nat → Int64) (w : Value) (tp : Nat → Int32) (x : Int32) (tj : Nat) (A : Nat → Prop) : Array Value → State → Outcome → State → Prop := va_Qv (fun (u : Int32 × (Nat → Int32)) => u = f_X1_bytes I tp x tj) (bx D (fun u => [(o, eRM r w (upd I 1 u.1) L), ((r 0), aB k 700 u.2)]) A) A
abbrev rm_X1_bytes : Room := { frames := 1, cells := 0, slots := 0, locals := 40 }
theorem xo_X1_bytes : xok yX1_bytes 1 := by unfold xok; decide +kernel
set_option maxHeartbeats 8000000 in
theorem m_X1_bytes (l : Launch) (D : va_G) (k : KK) (sz : Nat) (o : Nat) (r : Nat → Nat) (I : Nat → Int32) (L : Nat → Int64) (w : Value) (tp : Nat → Int32) (x : Int32) (tj : Nat) (htj : I 1 = nI tj) (ht4 : tj + 4 ≤ 700) : Met l yX1_bytes (ws_ yX1_bytes cX1_bytes 3 none) rm_X1_bytes (pcx D k [.ref o, .int x] sz [(o, eRM r w I L), ((r 0), aB k 700 tp)] (fun _ => True)) (q_X1_bytes D k o r I L w tp x tj (va_A [(o, eRM r w I L), ((r 0), aB k 700 tp)] sz)) 0 0 (va_A [(o, eRM r w I L), ((r 0), aB k 700 tp)] sz) := by
  refine Met.start (Qc := q_X1_bytes D k o r I L w tp x tj) (by decide) (Nat.le_of_ble_eq_true rfl) ?_
  intro p e s m below meth c A hx hb hr hlocks hml hown hin hts hg hP hD hA hAn hS hY hsz ls hl
  have hown : s.vm.findClass RX1 = some m.cls := hown
  have hl : lv_has ls 3 [(0, .ref o), (1, .int x)] := hl
  refine lv_bipush (v := 24) hx hb dX1_bytes_0 cb_24 ?_
  refine lv_istore_n (lv' := [(2, .int 24), (0, .ref o), (1, .int x)]) hx hb dX1_bytes_2 rfl hl (Nat.le_of_ble_eq_true rfl) rfl (fun ls hl => ?_)
  refine lv_iload_n hx hb dX1_bytes_3 rfl (lv_at hl 0 rfl) ?_
  refine lv_if_lt (tgt := 36) hx hb dX1_bytes_4 (by decide) (fun c => absurd c (by decide)) (fun _ => ?_)
  refine lv_aload_n hx hb dX1_bytes_7 rfl (lv_at hl 1 rfl) ?_
  refine va_get (D := D) (ci := 0) (v := .ref (r 0)) (C := RX1) (T := TX1) (N := 29) hx hb hts in_X1 hown hg.1 hP 0 rfl rfl 0 (Nat.le_of_ble_eq_true rfl) (hts _ q364) (fun _ h9 => h9) rfl dX1_bytes_8 ?_
  refine lv_aload_n hx hb dX1_bytes_11 rfl (lv_at hl 1 rfl) ?_
  refine va_get (D := D) (ci := 0) (v := .int (I 1)) (C := RX1) (T := TX1) (N := 29) hx hb hts in_X1 hown hg.1 hP 0 rfl rfl 1 (Nat.le_of_ble_eq_true rfl) (hts _ q365) (fun _ h9 => h9) rfl dX1_bytes_12 ?_
  refine lv_iload_n hx hb dX1_bytes_15 rfl (lv_at hl 2 rfl) ?_
  refine lv_iload_n hx hb dX1_bytes_16 rfl (lv_at hl 0 rfl) ?_
  refine lv_ishr hx hb dX1_bytes_17 ?_
  refine lv_i2b hx hb dX1_bytes_18 rfl ?_
  refine lv_topi (fun x1 ex1 => ?_)
  refine xa_bast hx hb hg hP hD hS 1 rfl htj (by omega) (by omega) dX1_bytes_19 (fun f2 H locs ef2 hP hD hS => ?_)
  replace hP : va_P D vwCl [(o, eRM r w I L), ((r 0), aB k 700 f2)] H := hP
  replace hD : va_D A [(o, eRM r w I L), ((r 0), aB k 700 f2)] := hD
  refine lv_aload_n hx hb dX1_bytes_20 rfl (lv_at hl 1 rfl) ?_
  refine lv_dup hx hb dX1_bytes_21 rfl ?_
  refine va_get (D := D) (ci := 0) (v := .int (I 1)) (C := RX1) (T := TX1) (N := 29) hx hb hts in_X1 hown hg.1 hP 0 rfl rfl 1 (Nat.le_of_ble_eq_true rfl) (hts _ q365) (fun _ h9 => h9) rfl dX1_bytes_22 ?_
  refine lv_iconst (v := 1) hx hb dX1_bytes_25 ci_1 ?_
  refine lv_iadd hx hb dX1_bytes_26 ?_
  refine lv_topi (fun x3 ex3 => ?_)
  refine va_put (D := D) (ci := 0) (v := .int x3) (C := RX1) (T := TX1) (N := 29) hx hb hts in_X1 tyX1 tyX1_ok nmX1 hown hg.1 hP hD hS 0 rfl rfl 1 (Nat.le_of_ble_eq_true rfl) (hts _ q365) (fun _ h9 => h9) rfl ftX1_1 rfl rfl (Nat.le_of_ble_eq_true rfl) dX1_bytes_27 (fun H locs hP hD hS => ?_)
  replace hP : va_P D vwCl [(o, eRM r w (upd I 1 x3) L), ((r 0), aB k 700 f2)] H := hP
  replace hD : va_D A [(o, eRM r w (upd I 1 x3) L), ((r 0), aB k 700 f2)] := hD
  refine lv_iinc (v := 16) (lv' := [(2, .int 16), (0, .ref o), (1, .int x)]) hx hb dX1_bytes_30 hl (k := 0) rfl (by decide) (Nat.le_of_ble_eq_true rfl) rfl (fun ls hl => ?_)
  refine lv_goto (tgt := 3) hx hb dX1_bytes_33 (by decide) ?_
  refine lv_iload_n hx hb dX1_bytes_3 rfl (lv_at hl 0 rfl) ?_
  refine lv_if_lt (tgt := 36) hx hb dX1_bytes_4 (by decide) (fun c => absurd c (by decide)) (fun _ => ?_)
  refine lv_aload_n hx hb dX1_bytes_7 rfl (lv_at hl 1 rfl) ?_
  refine va_get (D := D) (ci := 0) (v := .ref (r 0)) (C := RX1) (T := TX1) (N := 29) hx hb hts in_X1 hown hg.1 hP 0 rfl rfl 0 (Nat.le_of_ble_eq_true rfl) (hts _ q364) (fun _ h9 => h9) rfl dX1_bytes_8 ?_
  refine lv_aload_n hx hb dX1_bytes_11 rfl (lv_at hl 1 rfl) ?_
  refine va_get (D := D) (ci := 0) (v := .int x3) (C := RX1) (T := TX1) (N := 29) hx hb hts in_X1 hown hg.1 hP 0 rfl rfl 1 (Nat.le_of_ble_eq_true rfl) (hts _ q365) (fun _ h9 => h9) rfl dX1_bytes_12 ?_
  refine lv_iload_n hx hb dX1_bytes_15 rfl (lv_at hl 2 rfl) ?_
  refine lv_iload_n hx hb dX1_bytes_16 rfl (lv_at hl 0 rfl) ?_
  refine lv_ishr hx hb dX1_bytes_17 ?_
  refine lv_i2b hx hb dX1_bytes_18 rfl ?_
  refine lv_topi (fun x4 ex4 => ?_)
  refine xa_bast hx hb hg hP hD hS 1 rfl (ex3.trans (xnadd htj xl_1)) (by omega) (by omega) dX1_bytes_19 (fun f5 H locs ef5 hP hD hS => ?_)
  replace hP : va_P D vwCl [(o, eRM r w (upd I 1 x3) L), ((r 0), aB k 700 f5)] H := hP
  replace hD : va_D A [(o, eRM r w (upd I 1 x3) L), ((r 0), aB k 700 f5)] := hD
  refine lv_aload_n hx hb dX1_bytes_20 rfl (lv_at hl 1 rfl) ?_
  refine lv_dup hx hb dX1_bytes_21 rfl ?_
  refine va_get (D := D) (ci := 0) (v := .int x3) (C := RX1) (T := TX1) (N := 29) hx hb hts in_X1 hown hg.1 hP 0 rfl rfl 1 (Nat.le_of_ble_eq_true rfl) (hts _ q365) (fun _ h9 => h9) rfl dX1_bytes_22 ?_
  refine lv_iconst (v := 1) hx hb dX1_bytes_25 ci_1 ?_
  refine lv_iadd hx hb dX1_bytes_26 ?_
  refine lv_topi (fun x6 ex6 => ?_)
  refine va_put (D := D) (ci := 0) (v := .int x6) (C := RX1) (T := TX1) (N := 29) hx hb hts in_X1 tyX1 tyX1_ok nmX1 hown hg.1 hP hD hS 0 rfl rfl 1 (Nat.le_of_ble_eq_true rfl) (hts _ q365) (fun _ h9 => h9) rfl ftX1_1 rfl rfl (Nat.le_of_ble_eq_true rfl) dX1_bytes_27 (fun H locs hP hD hS => ?_)
  replace hP : va_P D vwCl [(o, eRM r w (upd I 1 x6) L), ((r 0), aB k 700 f5)] H := hP
  replace hD : va_D A [(o, eRM r w (upd I 1 x6) L), ((r 0), aB k 700 f5)] := hD
  refine lv_iinc (v := 8) (lv' := [(2, .int 8), (0, .ref o), (1, .int x)]) hx hb dX1_bytes_30 hl (k := 0) rfl (by decide) (Nat.le_of_ble_eq_true rfl) rfl (fun ls hl => ?_)
  refine lv_goto (tgt := 3) hx hb dX1_bytes_33 (by decide) ?_
  refine lv_iload_n hx hb dX1_bytes_3 rfl (lv_at hl 0 rfl) ?_
  refine lv_if_lt (tgt := 36) hx hb dX1_bytes_4 (by decide) (fun c => absurd c (by decide)) (fun _ => ?_)
  refine lv_aload_n hx hb dX1_bytes_7 rfl (lv_at hl 1 rfl) ?_
  refine va_get (D := D) (ci := 0) (v := .ref (r 0)) (C := RX1) (T := TX1) (N := 29) hx hb hts in_X1 hown hg.1 hP 0 rfl rfl 0 (Nat.le_of_ble_eq_true rfl) (hts _ q364) (fun _ h9 => h9) rfl dX1_bytes_8 ?_
  refine lv_aload_n hx hb dX1_bytes_11 rfl (lv_at hl 1 rfl) ?_
  refine va_get (D := D) (ci := 0) (v := .int x6) (C := RX1) (T := TX1) (N := 29) hx hb hts in_X1 hown hg.1 hP 0 rfl rfl 1 (Nat.le_of_ble_eq_true rfl) (hts _ q365) (fun _ h9 => h9) rfl dX1_bytes_12 ?_
  refine lv_iload_n hx hb dX1_bytes_15 rfl (lv_at hl 2 rfl) ?_
  refine lv_iload_n hx hb dX1_bytes_16 rfl (lv_at hl 0 rfl) ?_
  refine lv_ishr hx hb dX1_bytes_17 ?_
  refine lv_i2b hx hb dX1_bytes_18 rfl ?_
  refine lv_topi (fun x7 ex7 => ?_)
  refine xa_bast hx hb hg hP hD hS 1 rfl (ex6.trans (xnadd (ex3.trans (xnadd htj xl_1)) xl_1)) (by omega) (by omega) dX1_bytes_19 (fun f8 H locs ef8 hP hD hS => ?_)
  replace hP : va_P D vwCl [(o, eRM r w (upd I 1 x6) L), ((r 0), aB k 700 f8)] H := hP
  replace hD : va_D A [(o, eRM r w (upd I 1 x6) L), ((r 0), aB k 700 f8)] := hD
  refine lv_aload_n hx hb dX1_bytes_20 rfl (lv_at hl 1 rfl) ?_
  refine lv_dup hx hb dX1_bytes_21 rfl ?_
  refine va_get (D := D) (ci := 0) (v := .int x6) (C := RX1) (T := TX1) (N := 29) hx hb hts in_X1 hown hg.1 hP 0 rfl rfl 1 (Nat.le_of_ble_eq_true rfl) (hts _ q365) (fun _ h9 => h9) rfl dX1_bytes_22 ?_
  refine lv_iconst (v := 1) hx hb dX1_bytes_25 ci_1 ?_
  refine lv_iadd hx hb dX1_bytes_26 ?_
  refine lv_topi (fun x9 ex9 => ?_)
  refine va_put (D := D) (ci := 0) (v := .int x9) (C := RX1) (T := TX1) (N := 29) hx hb hts in_X1 tyX1 tyX1_ok nmX1 hown hg.1 hP hD hS 0 rfl rfl 1 (Nat.le_of_ble_eq_true rfl) (hts _ q365) (fun _ h9 => h9) rfl ftX1_1 rfl rfl (Nat.le_of_ble_eq_true rfl) dX1_bytes_27 (fun H locs hP hD hS => ?_)
  replace hP : va_P D vwCl [(o, eRM r w (upd I 1 x9) L), ((r 0), aB k 700 f8)] H := hP
  replace hD : va_D A [(o, eRM r w (upd I 1 x9) L), ((r 0), aB k 700 f8)] := hD
  refine lv_iinc (v := 0) (lv' := [(2, .int 0), (0, .ref o), (1, .int x)]) hx hb dX1_bytes_30 hl (k := 0) rfl (by decide) (Nat.le_of_ble_eq_true rfl) rfl (fun ls hl => ?_)
  refine lv_goto (tgt := 3) hx hb dX1_bytes_33 (by decide) ?_
  refine lv_iload_n hx hb dX1_bytes_3 rfl (lv_at hl 0 rfl) ?_
  refine lv_if_lt (tgt := 36) hx hb dX1_bytes_4 (by decide) (fun c => absurd c (by decide)) (fun _ => ?_)
  refine lv_aload_n hx hb dX1_bytes_7 rfl (lv_at hl 1 rfl) ?_
  refine va_get (D := D) (ci := 0) (v := .ref (r 0)) (C := RX1) (T := TX1) (N := 29) hx hb hts in_X1 hown hg.1 hP 0 rfl rfl 0 (Nat.le_of_ble_eq_true rfl) (hts _ q364) (fun _ h9 => h9) rfl dX1_bytes_8 ?_
  refine lv_aload_n hx hb dX1_bytes_11 rfl (lv_at hl 1 rfl) ?_
  refine va_get (D := D) (ci := 0) (v := .int x9) (C := RX1) (T := TX1) (N := 29) hx hb hts in_X1 hown hg.1 hP 0 rfl rfl 1 (Nat.le_of_ble_eq_true rfl) (hts _ q365) (fun _ h9 => h9) rfl dX1_bytes_12 ?_
  refine lv_iload_n hx hb dX1_bytes_15 rfl (lv_at hl 2 rfl) ?_
  refine lv_iload_n hx hb dX1_bytes_16 rfl (lv_at hl 0 rfl) ?_
  refine lv_ishr hx hb dX1_bytes_17 ?_
  refine lv_i2b hx hb dX1_bytes_18 rfl ?_
  refine lv_topi (fun x10 ex10 => ?_)
  refine xa_bast hx hb hg hP hD hS 1 rfl (ex9.trans (xnadd (ex6.trans (xnadd (ex3.trans (xnadd htj xl_1)) xl_1)) xl_1)) (by omega) (by omega) dX1_bytes_19 (fun f11 H locs ef11 hP hD hS => ?_)
  replace hP : va_P D vwCl [(o, eRM r w (upd I 1 x9) L), ((r 0), aB k 700 f11)] H := hP
  replace hD : va_D A [(o, eRM r w (upd I 1 x9) L), ((r 0), aB k 700 f11)] := hD
  refine lv_aload_n hx hb dX1_bytes_20 rfl (lv_at hl 1 rfl) ?_
  refine lv_dup hx hb dX1_bytes_21 rfl ?_
  refine va_get (D := D) (ci := 0) (v := .int x9) (C := RX1) (T := TX1) (N := 29) hx hb hts in_X1 hown hg.1 hP 0 rfl rfl 1 (Nat.le_of_ble_eq_true rfl) (hts _ q365) (fun _ h9 => h9) rfl dX1_bytes_22 ?_
  refine lv_iconst (v := 1) hx hb dX1_bytes_25 ci_1 ?_
  refine lv_iadd hx hb dX1_bytes_26 ?_
  refine lv_topi (fun x12 ex12 => ?_)
  refine va_put (D := D) (ci := 0) (v := .int x12) (C := RX1) (T := TX1) (N := 29) hx hb hts in_X1 tyX1 tyX1_ok nmX1 hown hg.1 hP hD hS 0 rfl rfl 1 (Nat.le_of_ble_eq_true rfl) (hts _ q365) (fun _ h9 => h9) rfl ftX1_1 rfl rfl (Nat.le_of_ble_eq_true rfl) dX1_bytes_27 (fun H locs hP hD hS => ?_)
  replace hP : va_P D vwCl [(o, eRM r w (upd I 1 x12) L), ((r 0), aB k 700 f11)] H := hP
  replace hD : va_D A [(o, eRM r w (upd I 1 x12) L), ((r 0), aB k 700 f11)] := hD
  refine lv_iinc (v := ((-8))) (lv' := [(2, .int (-8)), (0, .ref o), (1, .int x)]) hx hb dX1_bytes_30 hl (k := 0) rfl (by decide) (Nat.le_of_ble_eq_true rfl) rfl (fun ls hl => ?_)
  refine lv_goto (tgt := 3) hx hb dX1_bytes_33 (by decide) ?_
  refine lv_iload_n hx hb dX1_bytes_3 rfl (lv_at hl 0 rfl) ?_
  refine lv_if_lt (tgt := 36) hx hb dX1_bytes_4 (by decide) (fun _ => ?_) (fun c => absurd (by decide) c)
  exact xret_v hx hb hr hlocks (Nat.le_of_ble_eq_true rfl) (Nat.le_of_ble_eq_true rfl) hS.2.2 dX1_bytes_36 (fun t ht => ⟨⟨(x12, f11), rfl, (by subst ex12; subst ef11; subst ex10; subst ex9; subst ef8; subst ex7; subst ex6; subst ef5; subst ex4; subst ex3; subst ef2; subst ex1; exact rfl), by rw [ht]; exact hP, hD⟩, hS.F ht⟩)
