set_option maxRecDepth 100000
abbrev q_X13_init (D : va_G) (k : KK) (ma : Nat) (A : Nat → Prop) : Array Value → State → Outcome → State → Prop := va_Qv (fun (ug : (Unit) × (Nat → Nat)) => ug.1 = ()) (bx D (fun ug => [(ma, eMI ug.2 (upd (upd (upd (upd (fun _ => 0) 0 (-1)) 2 (-1)) 4 (-1)) 5 (-1))), ((ug.2 11), aI k 6 (fun _ => 0)), ((ug.2 12), aI k 5 (fun _ => 0)), ((ug.2 13), aI k 5 (fun _ => 0)), ((ug.2 14), aI k 4 (fun _ => 0)), ((ug.2 15), aI k 20 (fun _ => 0)), ((ug.2 16), aL k 9 (fun _ => 0)), ((ug.2 17), aI k 9 (fun _ => 0))]) A) A
abbrev rm_X13_init : Room := { frames := 1, cells := 7, slots := 58, locals := 40 }
theorem xo_X13_init : xok yX13_init 0 := by unfold xok; decide +kernel
set_option maxHeartbeats 8000000 in
theorem m_X13_init (l : Launch) (D : va_G) (k : KK) (sz : Nat) (ma : Nat)  : Met l yX13_init (ws_ yX13_init cX13_init 1 none) rm_X13_init (pcx D k [.ref ma] sz [(ma, .inr (11, [.int 0, .int 0, .int 0, .int 0, .int 0, .int 0, .int 0, .int 0, .int 0, .int 0, .int 0, .null, .null, .null, .null, .null, .null, .null]))] (fun _ => True)) (q_X13_init D k ma (va_A [(ma, .inr (11, [.int 0, .int 0, .int 0, .int 0, .int 0, .int 0, .int 0, .int 0, .int 0, .int 0, .int 0, .null, .null, .null, .null, .null, .null, .null]))] sz)) 7 58 (va_A [(ma, .inr (11, [.int 0, .int 0, .int 0, .int 0, .int 0, .int 0, .int 0, .int 0, .int 0, .int 0, .int 0, .null, .null, .null, .null, .null, .null, .null]))] sz) := by
  refine Met.start (Qc := q_X13_init D k ma) (by decide) (Nat.le_of_ble_eq_true rfl) ?_
  intro p e s m below meth c A hx hb hr hlocks hml hown hin hts hg hP hD hA hAn hS hY hsz ls hl
  have hown : s.vm.findClass RX13 = some m.cls := hown
  have hl : lv_has ls 1 [(0, .ref ma)] := hl
  refine lv_aload_n hx hb dX13_init_0 rfl (lv_at hl 0 rfl) ?_
  refine W.objInit hx hb hown (hts _ q1274) (hts _ q113) (hts _ q114) rfl (by rw [hml]; exact hl.1) rfl dX13_init_1 (Nat.le_of_ble_eq_true rfl) (Nat.le_of_ble_eq_true rfl) ?_
  refine W.eq (g2 := F0 m 4 ls []) rfl ?_
  refine lv_aload_n hx hb dX13_init_4 rfl (lv_at hl 0 rfl) ?_
  refine lv_iconst (v := (-1)) hx hb dX13_init_5 ci_m1 ?_
  refine va_put (D := D) (ci := 11) (v := .int (-1)) (C := RX13) (T := TX13) (N := 18) hx hb hts in_X13 tyX13 tyX13_ok nmX13 hown hg.1 hP hD hS 0 rfl rfl 0 (Nat.le_of_ble_eq_true rfl) (hts _ q1275) (fun _ h9 => h9) rfl ftX13_0 rfl rfl (Nat.le_of_ble_eq_true rfl) dX13_init_6 (fun H locs hP hD hS => ?_)
  replace hP : va_P D vwCl [(ma, .inr (11, [.int (-1), .int 0, .int 0, .int 0, .int 0, .int 0, .int 0, .int 0, .int 0, .int 0, .int 0, .null, .null, .null, .null, .null, .null, .null]))] H := hP
  replace hD : va_D A [(ma, .inr (11, [.int (-1), .int 0, .int 0, .int 0, .int 0, .int 0, .int 0, .int 0, .int 0, .int 0, .int 0, .null, .null, .null, .null, .null, .null, .null]))] := hD
  refine lv_aload_n hx hb dX13_init_9 rfl (lv_at hl 0 rfl) ?_
  refine lv_iconst (v := (-1)) hx hb dX13_init_10 ci_m1 ?_
  refine va_put (D := D) (ci := 11) (v := .int (-1)) (C := RX13) (T := TX13) (N := 18) hx hb hts in_X13 tyX13 tyX13_ok nmX13 hown hg.1 hP hD hS 0 rfl rfl 2 (Nat.le_of_ble_eq_true rfl) (hts _ q1278) (fun _ h9 => h9) rfl ftX13_2 rfl rfl (Nat.le_of_ble_eq_true rfl) dX13_init_11 (fun H locs hP hD hS => ?_)
  replace hP : va_P D vwCl [(ma, .inr (11, [.int (-1), .int 0, .int (-1), .int 0, .int 0, .int 0, .int 0, .int 0, .int 0, .int 0, .int 0, .null, .null, .null, .null, .null, .null, .null]))] H := hP
  replace hD : va_D A [(ma, .inr (11, [.int (-1), .int 0, .int (-1), .int 0, .int 0, .int 0, .int 0, .int 0, .int 0, .int 0, .int 0, .null, .null, .null, .null, .null, .null, .null]))] := hD
  refine lv_aload_n hx hb dX13_init_14 rfl (lv_at hl 0 rfl) ?_
  refine lv_iconst (v := (-1)) hx hb dX13_init_15 ci_m1 ?_
  refine va_put (D := D) (ci := 11) (v := .int (-1)) (C := RX13) (T := TX13) (N := 18) hx hb hts in_X13 tyX13 tyX13_ok nmX13 hown hg.1 hP hD hS 0 rfl rfl 4 (Nat.le_of_ble_eq_true rfl) (hts _ q1281) (fun _ h9 => h9) rfl ftX13_4 rfl rfl (Nat.le_of_ble_eq_true rfl) dX13_init_16 (fun H locs hP hD hS => ?_)
  replace hP : va_P D vwCl [(ma, .inr (11, [.int (-1), .int 0, .int (-1), .int 0, .int (-1), .int 0, .int 0, .int 0, .int 0, .int 0, .int 0, .null, .null, .null, .null, .null, .null, .null]))] H := hP
  replace hD : va_D A [(ma, .inr (11, [.int (-1), .int 0, .int (-1), .int 0, .int (-1), .int 0, .int 0, .int 0, .int 0, .int 0, .int 0, .null, .null, .null, .null, .null, .null, .null]))] := hD
  refine lv_aload_n hx hb dX13_init_19 rfl (lv_at hl 0 rfl) ?_
  refine lv_iconst (v := (-1)) hx hb dX13_init_20 ci_m1 ?_
  refine va_put (D := D) (ci := 11) (v := .int (-1)) (C := RX13) (T := TX13) (N := 18) hx hb hts in_X13 tyX13 tyX13_ok nmX13 hown hg.1 hP hD hS 0 rfl rfl 5 (Nat.le_of_ble_eq_true rfl) (hts _ q1283) (fun _ h9 => h9) rfl ftX13_5 rfl rfl (Nat.le_of_ble_eq_true rfl) dX13_init_21 (fun H locs hP hD hS => ?_)
  replace hP : va_P D vwCl [(ma, .inr (11, [.int (-1), .int 0, .int (-1), .int 0, .int (-1), .int (-1), .int 0, .int 0, .int 0, .int 0, .int 0, .null, .null, .null, .null, .null, .null, .null]))] H := hP
  replace hD : va_D A [(ma, .inr (11, [.int (-1), .int 0, .int (-1), .int 0, .int (-1), .int (-1), .int 0, .int 0, .int 0, .int 0, .int 0, .null, .null, .null, .null, .null, .null, .null]))] := hD
  refine lv_aload_n hx hb dX13_init_24 rfl (lv_at hl 0 rfl) ?_
  refine lv_bipush (v := 6) hx hb dX13_init_25 cb_6 ?_
  refine xn_i hx hb (hts _ q306) hg hP hD hS hA xl_6 (by omega) (Nat.le_of_ble_eq_true rfl) (Nat.le_of_ble_eq_true rfl) dX13_init_27 (fun q1 H hP hD hS => ?_)
  replace hP : va_P D vwCl [(ma, .inr (11, [.int (-1), .int 0, .int (-1), .int 0, .int (-1), .int (-1), .int 0, .int 0, .int 0, .int 0, .int 0, .null, .null, .null, .null, .null, .null, .null])), (q1, aI k 6 (fun _ => 0))] H := hP
  replace hD : va_D A [(ma, .inr (11, [.int (-1), .int 0, .int (-1), .int 0, .int (-1), .int (-1), .int 0, .int 0, .int 0, .int 0, .int 0, .null, .null, .null, .null, .null, .null, .null])), (q1, aI k 6 (fun _ => 0))] := hD
  refine W.cs (cells' := 1) (slots' := 6) rfl rfl ?_
  refine va_putF (D := D) (ci := 11) (v := .ref q1) (C := RX13) (T := TX13) (N := 18) hx hb hts in_X13 tyX13 tyX13_ok nmX13 hown hg.1 hP hD hS 0 rfl rfl 11 (Nat.le_of_ble_eq_true rfl) (hts _ q1291) (fun _ h9 => h9) rfl hin rfl ftX13_11 rfl rfl (Nat.le_of_ble_eq_true rfl) dX13_init_29 (fun H locs hP hD hS => ?_)
  replace hP : va_P D vwCl [(ma, .inr (11, [.int (-1), .int 0, .int (-1), .int 0, .int (-1), .int (-1), .int 0, .int 0, .int 0, .int 0, .int 0, .ref q1, .null, .null, .null, .null, .null, .null])), (q1, aI k 6 (fun _ => 0))] H := hP
  replace hD : va_D A [(ma, .inr (11, [.int (-1), .int 0, .int (-1), .int 0, .int (-1), .int (-1), .int 0, .int 0, .int 0, .int 0, .int 0, .ref q1, .null, .null, .null, .null, .null, .null])), (q1, aI k 6 (fun _ => 0))] := hD
  refine lv_aload_n hx hb dX13_init_32 rfl (lv_at hl 0 rfl) ?_
  refine lv_iconst (v := 5) hx hb dX13_init_33 ci_5 ?_
  refine xn_i hx hb (hts _ q306) hg hP hD hS hA xl_5 (by omega) (Nat.le_of_ble_eq_true rfl) (Nat.le_of_ble_eq_true rfl) dX13_init_34 (fun q2 H hP hD hS => ?_)
  replace hP : va_P D vwCl [(ma, .inr (11, [.int (-1), .int 0, .int (-1), .int 0, .int (-1), .int (-1), .int 0, .int 0, .int 0, .int 0, .int 0, .ref q1, .null, .null, .null, .null, .null, .null])), (q1, aI k 6 (fun _ => 0)), (q2, aI k 5 (fun _ => 0))] H := hP
  replace hD : va_D A [(ma, .inr (11, [.int (-1), .int 0, .int (-1), .int 0, .int (-1), .int (-1), .int 0, .int 0, .int 0, .int 0, .int 0, .ref q1, .null, .null, .null, .null, .null, .null])), (q1, aI k 6 (fun _ => 0)), (q2, aI k 5 (fun _ => 0))] := hD
  refine W.cs (cells' := 2) (slots' := 11) rfl rfl ?_
  refine va_putF (D := D) (ci := 11) (v := .ref q2) (C := RX13) (T := TX13) (N := 18) hx hb hts in_X13 tyX13 tyX13_ok nmX13 hown hg.1 hP hD hS 0 rfl rfl 12 (Nat.le_of_ble_eq_true rfl) (hts _ q1293) (fun _ h9 => h9) rfl hin rfl ftX13_12 rfl rfl (Nat.le_of_ble_eq_true rfl) dX13_init_36 (fun H locs hP hD hS => ?_)
  replace hP : va_P D vwCl [(ma, .inr (11, [.int (-1), .int 0, .int (-1), .int 0, .int (-1), .int (-1), .int 0, .int 0, .int 0, .int 0, .int 0, .ref q1, .ref q2, .null, .null, .null, .null, .null])), (q1, aI k 6 (fun _ => 0)), (q2, aI k 5 (fun _ => 0))] H := hP
  replace hD : va_D A [(ma, .inr (11, [.int (-1), .int 0, .int (-1), .int 0, .int (-1), .int (-1), .int 0, .int 0, .int 0, .int 0, .int 0, .ref q1, .ref q2, .null, .null, .null, .null, .null])), (q1, aI k 6 (fun _ => 0)), (q2, aI k 5 (fun _ => 0))] := hD
  refine lv_aload_n hx hb dX13_init_39 rfl (lv_at hl 0 rfl) ?_
  refine lv_iconst (v := 5) hx hb dX13_init_40 ci_5 ?_
  refine xn_i hx hb (hts _ q306) hg hP hD hS hA xl_5 (by omega) (Nat.le_of_ble_eq_true rfl) (Nat.le_of_ble_eq_true rfl) dX13_init_41 (fun q3 H hP hD hS => ?_)
  replace hP : va_P D vwCl [(ma, .inr (11, [.int (-1), .int 0, .int (-1), .int 0, .int (-1), .int (-1), .int 0, .int 0, .int 0, .int 0, .int 0, .ref q1, .ref q2, .null, .null, .null, .null, .null])), (q1, aI k 6 (fun _ => 0)), (q2, aI k 5 (fun _ => 0)), (q3, aI k 5 (fun _ => 0))] H := hP
  replace hD : va_D A [(ma, .inr (11, [.int (-1), .int 0, .int (-1), .int 0, .int (-1), .int (-1), .int 0, .int 0, .int 0, .int 0, .int 0, .ref q1, .ref q2, .null, .null, .null, .null, .null])), (q1, aI k 6 (fun _ => 0)), (q2, aI k 5 (fun _ => 0)), (q3, aI k 5 (fun _ => 0))] := hD
  refine W.cs (cells' := 3) (slots' := 16) rfl rfl ?_
  refine va_putF (D := D) (ci := 11) (v := .ref q3) (C := RX13) (T := TX13) (N := 18) hx hb hts in_X13 tyX13 tyX13_ok nmX13 hown hg.1 hP hD hS 0 rfl rfl 13 (Nat.le_of_ble_eq_true rfl) (hts _ q1295) (fun _ h9 => h9) rfl hin rfl ftX13_13 rfl rfl (Nat.le_of_ble_eq_true rfl) dX13_init_43 (fun H locs hP hD hS => ?_)
  replace hP : va_P D vwCl [(ma, .inr (11, [.int (-1), .int 0, .int (-1), .int 0, .int (-1), .int (-1), .int 0, .int 0, .int 0, .int 0, .int 0, .ref q1, .ref q2, .ref q3, .null, .null, .null, .null])), (q1, aI k 6 (fun _ => 0)), (q2, aI k 5 (fun _ => 0)), (q3, aI k 5 (fun _ => 0))] H := hP
  replace hD : va_D A [(ma, .inr (11, [.int (-1), .int 0, .int (-1), .int 0, .int (-1), .int (-1), .int 0, .int 0, .int 0, .int 0, .int 0, .ref q1, .ref q2, .ref q3, .null, .null, .null, .null])), (q1, aI k 6 (fun _ => 0)), (q2, aI k 5 (fun _ => 0)), (q3, aI k 5 (fun _ => 0))] := hD
  refine lv_aload_n hx hb dX13_init_46 rfl (lv_at hl 0 rfl) ?_
  refine lv_iconst (v := 4) hx hb dX13_init_47 ci_4 ?_
  refine xn_i hx hb (hts _ q306) hg hP hD hS hA xl_4 (by omega) (Nat.le_of_ble_eq_true rfl) (Nat.le_of_ble_eq_true rfl) dX13_init_48 (fun q4 H hP hD hS => ?_)
  replace hP : va_P D vwCl [(ma, .inr (11, [.int (-1), .int 0, .int (-1), .int 0, .int (-1), .int (-1), .int 0, .int 0, .int 0, .int 0, .int 0, .ref q1, .ref q2, .ref q3, .null, .null, .null, .null])), (q1, aI k 6 (fun _ => 0)), (q2, aI k 5 (fun _ => 0)), (q3, aI k 5 (fun _ => 0)), (q4, aI k 4 (fun _ => 0))] H := hP
  replace hD : va_D A [(ma, .inr (11, [.int (-1), .int 0, .int (-1), .int 0, .int (-1), .int (-1), .int 0, .int 0, .int 0, .int 0, .int 0, .ref q1, .ref q2, .ref q3, .null, .null, .null, .null])), (q1, aI k 6 (fun _ => 0)), (q2, aI k 5 (fun _ => 0)), (q3, aI k 5 (fun _ => 0)), (q4, aI k 4 (fun _ => 0))] := hD
  refine W.cs (cells' := 4) (slots' := 20) rfl rfl ?_
  refine va_putF (D := D) (ci := 11) (v := .ref q4) (C := RX13) (T := TX13) (N := 18) hx hb hts in_X13 tyX13 tyX13_ok nmX13 hown hg.1 hP hD hS 0 rfl rfl 14 (Nat.le_of_ble_eq_true rfl) (hts _ q1297) (fun _ h9 => h9) rfl hin rfl ftX13_14 rfl rfl (Nat.le_of_ble_eq_true rfl) dX13_init_50 (fun H locs hP hD hS => ?_)
  replace hP : va_P D vwCl [(ma, .inr (11, [.int (-1), .int 0, .int (-1), .int 0, .int (-1), .int (-1), .int 0, .int 0, .int 0, .int 0, .int 0, .ref q1, .ref q2, .ref q3, .ref q4, .null, .null, .null])), (q1, aI k 6 (fun _ => 0)), (q2, aI k 5 (fun _ => 0)), (q3, aI k 5 (fun _ => 0)), (q4, aI k 4 (fun _ => 0))] H := hP
  replace hD : va_D A [(ma, .inr (11, [.int (-1), .int 0, .int (-1), .int 0, .int (-1), .int (-1), .int 0, .int 0, .int 0, .int 0, .int 0, .ref q1, .ref q2, .ref q3, .ref q4, .null, .null, .null])), (q1, aI k 6 (fun _ => 0)), (q2, aI k 5 (fun _ => 0)), (q3, aI k 5 (fun _ => 0)), (q4, aI k 4 (fun _ => 0))] := hD
  refine lv_aload_n hx hb dX13_init_53 rfl (lv_at hl 0 rfl) ?_
  refine lv_bipush (v := 20) hx hb dX13_init_54 cb_20 ?_
  refine xn_i hx hb (hts _ q306) hg hP hD hS hA xl_20 (by omega) (Nat.le_of_ble_eq_true rfl) (Nat.le_of_ble_eq_true rfl) dX13_init_56 (fun q5 H hP hD hS => ?_)
  replace hP : va_P D vwCl [(ma, .inr (11, [.int (-1), .int 0, .int (-1), .int 0, .int (-1), .int (-1), .int 0, .int 0, .int 0, .int 0, .int 0, .ref q1, .ref q2, .ref q3, .ref q4, .null, .null, .null])), (q1, aI k 6 (fun _ => 0)), (q2, aI k 5 (fun _ => 0)), (q3, aI k 5 (fun _ => 0)), (q4, aI k 4 (fun _ => 0)), (q5, aI k 20 (fun _ => 0))] H := hP
  replace hD : va_D A [(ma, .inr (11, [.int (-1), .int 0, .int (-1), .int 0, .int (-1), .int (-1), .int 0, .int 0, .int 0, .int 0, .int 0, .ref q1, .ref q2, .ref q3, .ref q4, .null, .null, .null])), (q1, aI k 6 (fun _ => 0)), (q2, aI k 5 (fun _ => 0)), (q3, aI k 5 (fun _ => 0)), (q4, aI k 4 (fun _ => 0)), (q5, aI k 20 (fun _ => 0))] := hD
  refine W.cs (cells' := 5) (slots' := 40) rfl rfl ?_
  refine va_putF (D := D) (ci := 11) (v := .ref q5) (C := RX13) (T := TX13) (N := 18) hx hb hts in_X13 tyX13 tyX13_ok nmX13 hown hg.1 hP hD hS 0 rfl rfl 15 (Nat.le_of_ble_eq_true rfl) (hts _ q1299) (fun _ h9 => h9) rfl hin rfl ftX13_15 rfl rfl (Nat.le_of_ble_eq_true rfl) dX13_init_58 (fun H locs hP hD hS => ?_)
  replace hP : va_P D vwCl [(ma, .inr (11, [.int (-1), .int 0, .int (-1), .int 0, .int (-1), .int (-1), .int 0, .int 0, .int 0, .int 0, .int 0, .ref q1, .ref q2, .ref q3, .ref q4, .ref q5, .null, .null])), (q1, aI k 6 (fun _ => 0)), (q2, aI k 5 (fun _ => 0)), (q3, aI k 5 (fun _ => 0)), (q4, aI k 4 (fun _ => 0)), (q5, aI k 20 (fun _ => 0))] H := hP
  replace hD : va_D A [(ma, .inr (11, [.int (-1), .int 0, .int (-1), .int 0, .int (-1), .int (-1), .int 0, .int 0, .int 0, .int 0, .int 0, .ref q1, .ref q2, .ref q3, .ref q4, .ref q5, .null, .null])), (q1, aI k 6 (fun _ => 0)), (q2, aI k 5 (fun _ => 0)), (q3, aI k 5 (fun _ => 0)), (q4, aI k 4 (fun _ => 0)), (q5, aI k 20 (fun _ => 0))] := hD
  refine lv_aload_n hx hb dX13_init_61 rfl (lv_at hl 0 rfl) ?_
  refine lv_bipush (v := 9) hx hb dX13_init_62 cb_9 ?_
  refine xn_l hx hb (hts _ q363) hg hP hD hS hA xl_9 (by omega) (Nat.le_of_ble_eq_true rfl) (Nat.le_of_ble_eq_true rfl) dX13_init_64 (fun q6 H hP hD hS => ?_)
  replace hP : va_P D vwCl [(ma, .inr (11, [.int (-1), .int 0, .int (-1), .int 0, .int (-1), .int (-1), .int 0, .int 0, .int 0, .int 0, .int 0, .ref q1, .ref q2, .ref q3, .ref q4, .ref q5, .null, .null])), (q1, aI k 6 (fun _ => 0)), (q2, aI k 5 (fun _ => 0)), (q3, aI k 5 (fun _ => 0)), (q4, aI k 4 (fun _ => 0)), (q5, aI k 20 (fun _ => 0)), (q6, aL k 9 (fun _ => 0))] H := hP
  replace hD : va_D A [(ma, .inr (11, [.int (-1), .int 0, .int (-1), .int 0, .int (-1), .int (-1), .int 0, .int 0, .int 0, .int 0, .int 0, .ref q1, .ref q2, .ref q3, .ref q4, .ref q5, .null, .null])), (q1, aI k 6 (fun _ => 0)), (q2, aI k 5 (fun _ => 0)), (q3, aI k 5 (fun _ => 0)), (q4, aI k 4 (fun _ => 0)), (q5, aI k 20 (fun _ => 0)), (q6, aL k 9 (fun _ => 0))] := hD
  refine W.cs (cells' := 6) (slots' := 49) rfl rfl ?_
  refine va_putF (D := D) (ci := 11) (v := .ref q6) (C := RX13) (T := TX13) (N := 18) hx hb hts in_X13 tyX13 tyX13_ok nmX13 hown hg.1 hP hD hS 0 rfl rfl 16 (Nat.le_of_ble_eq_true rfl) (hts _ q1301) (fun _ h9 => h9) rfl hin rfl ftX13_16 rfl rfl (Nat.le_of_ble_eq_true rfl) dX13_init_66 (fun H locs hP hD hS => ?_)
  replace hP : va_P D vwCl [(ma, .inr (11, [.int (-1), .int 0, .int (-1), .int 0, .int (-1), .int (-1), .int 0, .int 0, .int 0, .int 0, .int 0, .ref q1, .ref q2, .ref q3, .ref q4, .ref q5, .ref q6, .null])), (q1, aI k 6 (fun _ => 0)), (q2, aI k 5 (fun _ => 0)), (q3, aI k 5 (fun _ => 0)), (q4, aI k 4 (fun _ => 0)), (q5, aI k 20 (fun _ => 0)), (q6, aL k 9 (fun _ => 0))] H := hP
  replace hD : va_D A [(ma, .inr (11, [.int (-1), .int 0, .int (-1), .int 0, .int (-1), .int (-1), .int 0, .int 0, .int 0, .int 0, .int 0, .ref q1, .ref q2, .ref q3, .ref q4, .ref q5, .ref q6, .null])), (q1, aI k 6 (fun _ => 0)), (q2, aI k 5 (fun _ => 0)), (q3, aI k 5 (fun _ => 0)), (q4, aI k 4 (fun _ => 0)), (q5, aI k 20 (fun _ => 0)), (q6, aL k 9 (fun _ => 0))] := hD
  refine lv_aload_n hx hb dX13_init_69 rfl (lv_at hl 0 rfl) ?_
  refine lv_bipush (v := 9) hx hb dX13_init_70 cb_9 ?_
  refine xn_i hx hb (hts _ q306) hg hP hD hS hA xl_9 (by omega) (Nat.le_of_ble_eq_true rfl) (Nat.le_of_ble_eq_true rfl) dX13_init_72 (fun q7 H hP hD hS => ?_)
  replace hP : va_P D vwCl [(ma, .inr (11, [.int (-1), .int 0, .int (-1), .int 0, .int (-1), .int (-1), .int 0, .int 0, .int 0, .int 0, .int 0, .ref q1, .ref q2, .ref q3, .ref q4, .ref q5, .ref q6, .null])), (q1, aI k 6 (fun _ => 0)), (q2, aI k 5 (fun _ => 0)), (q3, aI k 5 (fun _ => 0)), (q4, aI k 4 (fun _ => 0)), (q5, aI k 20 (fun _ => 0)), (q6, aL k 9 (fun _ => 0)), (q7, aI k 9 (fun _ => 0))] H := hP
  replace hD : va_D A [(ma, .inr (11, [.int (-1), .int 0, .int (-1), .int 0, .int (-1), .int (-1), .int 0, .int 0, .int 0, .int 0, .int 0, .ref q1, .ref q2, .ref q3, .ref q4, .ref q5, .ref q6, .null])), (q1, aI k 6 (fun _ => 0)), (q2, aI k 5 (fun _ => 0)), (q3, aI k 5 (fun _ => 0)), (q4, aI k 4 (fun _ => 0)), (q5, aI k 20 (fun _ => 0)), (q6, aL k 9 (fun _ => 0)), (q7, aI k 9 (fun _ => 0))] := hD
  refine W.cs (cells' := 7) (slots' := 58) rfl rfl ?_
  refine va_putF (D := D) (ci := 11) (v := .ref q7) (C := RX13) (T := TX13) (N := 18) hx hb hts in_X13 tyX13 tyX13_ok nmX13 hown hg.1 hP hD hS 0 rfl rfl 17 (Nat.le_of_ble_eq_true rfl) (hts _ q1303) (fun _ h9 => h9) rfl hin rfl ftX13_17 rfl rfl (Nat.le_of_ble_eq_true rfl) dX13_init_74 (fun H locs hP hD hS => ?_)
  replace hP : va_P D vwCl [(ma, .inr (11, [.int (-1), .int 0, .int (-1), .int 0, .int (-1), .int (-1), .int 0, .int 0, .int 0, .int 0, .int 0, .ref q1, .ref q2, .ref q3, .ref q4, .ref q5, .ref q6, .ref q7])), (q1, aI k 6 (fun _ => 0)), (q2, aI k 5 (fun _ => 0)), (q3, aI k 5 (fun _ => 0)), (q4, aI k 4 (fun _ => 0)), (q5, aI k 20 (fun _ => 0)), (q6, aL k 9 (fun _ => 0)), (q7, aI k 9 (fun _ => 0))] H := hP
  replace hD : va_D A [(ma, .inr (11, [.int (-1), .int 0, .int (-1), .int 0, .int (-1), .int (-1), .int 0, .int 0, .int 0, .int 0, .int 0, .ref q1, .ref q2, .ref q3, .ref q4, .ref q5, .ref q6, .ref q7])), (q1, aI k 6 (fun _ => 0)), (q2, aI k 5 (fun _ => 0)), (q3, aI k 5 (fun _ => 0)), (q4, aI k 4 (fun _ => 0)), (q5, aI k 20 (fun _ => 0)), (q6, aL k 9 (fun _ => 0)), (q7, aI k 9 (fun _ => 0))] := hD
  exact xret_v hx hb hr hlocks (by omega) (by omega) hS.2.2 dX13_init_77 (fun t ht => ⟨⟨((), (fun j => if j = 11 then q1 else if j = 12 then q2 else if j = 13 then q3 else if j = 14 then q4 else if j = 15 then q5 else if j = 16 then q6 else if j = 17 then q7 else  0)), rfl, rfl, by rw [ht]; exact hP, hD⟩, hS.F ht⟩)

def f_X8_millA  : Int32 × Int32 × Int32 × Int32 :=
  let u1 := f_X8_refused 2
  (u1.1, 0, u1.2.1, u1.2.2)
abbrev q_X8_millA (D : va_G) (k : KK) (o : Nat) (r : Nat → Nat) (mv : Value) (fr : Value) (I : Nat → Int32) (L : Nat → Int64) (tp : Nat → Int32) (sv : Nat → Int32) (pR : Nat → Int32) (pW : Nat → Int32) (pO : Nat → Int32) (rw : Nat → Int32) (x : Int32) (A : Nat → Prop) : Array Value → State → Outcome → State → Prop := va_Qi (fun (r_ : Int32) (u : Int32 × Int32 × Int32 × Int32) => r_ = u.1 ∧ u = f_X8_millA) (bx D (fun u => [(o, eMM r mv fr (upd (upd (upd I 0 u.2.1) 1 u.2.2.1) 2 u.2.2.2) L), ((r 5), aB k 700 tp), ((r 16), aI k 37 sv), ((r 20), aI k 12 pR), ((r 21), aI k 12 pW), ((r 22), aI k 12 pO), ((r 33), aI k 2 rw)]) A) A
abbrev rm_X8_millA : Room := { frames := 2, cells := 0, slots := 0, locals := 80 }
theorem xo_X8_mill : xok yX8_mill 1 := by unfold xok; decide +kernel
set_option maxHeartbeats 8000000 in
theorem m_X8_millA (l : Launch) (D : va_G) (k : KK) (sz : Nat) (o : Nat) (r : Nat → Nat) (mv : Value) (fr : Value) (I : Nat → Int32) (L : Nat → Int64) (tp : Nat → Int32) (sv : Nat → Int32) (pR : Nat → Int32) (pW : Nat → Int32) (pO : Nat → Int32) (rw : Nat → Int32) (x : Int32) (hlo : x < 0) : Met l yX8_mill (ws_ yX8_mill cX8_mill 3 (some .int)) rm_X8_millA (pcx D k [.ref o, .int x] sz [(o, eMM r mv fr I L), ((r 5), aB k 700 tp), ((r 16), aI k 37 sv), ((r 20), aI k 12 pR), ((r 21), aI k 12 pW), ((r 22), aI k 12 pO), ((r 33), aI k 2 rw)] (fun _ => True)) (q_X8_millA D k o r mv fr I L tp sv pR pW pO rw x (va_A [(o, eMM r mv fr I L), ((r 5), aB k 700 tp), ((r 16), aI k 37 sv), ((r 20), aI k 12 pR), ((r 21), aI k 12 pW), ((r 22), aI k 12 pO), ((r 33), aI k 2 rw)] sz)) 0 0 (va_A [(o, eMM r mv fr I L), ((r 5), aB k 700 tp), ((r 16), aI k 37 sv), ((r 20), aI k 12 pR), ((r 21), aI k 12 pW), ((r 22), aI k 12 pO), ((r 33), aI k 2 rw)] sz) := by
  refine Met.start (Qc := q_X8_millA D k o r mv fr I L tp sv pR pW pO rw x) (by decide) (Nat.le_of_ble_eq_true rfl) ?_
  intro p e s m below meth c A hx hb hr hlocks hml hown hin hts hg hP hD hA hAn hS hY hsz ls hl
  have hown : s.vm.findClass RX8 = some m.cls := hown
  have hl : lv_has ls 3 [(0, .ref o), (1, .int x)] := hl
  refine lv_aload_n hx hb dX8_mill_0 rfl (lv_at hl 0 rfl) ?_
  refine lv_iconst (v := 0) hx hb dX8_mill_1 ci_0 ?_
  refine va_put (D := D) (ci := 10) (v := .int 0) (C := RX8) (T := TX8) (N := 37) hx hb hts in_X8 tyX8 tyX8_ok nmX8 hown hg.1 hP hD hS 0 rfl rfl 0 (Nat.le_of_ble_eq_true rfl) (hts _ q1141) (fun _ h9 => h9) rfl ftX8_0 rfl rfl (Nat.le_of_ble_eq_true rfl) dX8_mill_2 (fun H locs hP hD hS => ?_)
  replace hP : va_P D vwCl [(o, eMM r mv fr (upd I 0 0) L), ((r 5), aB k 700 tp), ((r 16), aI k 37 sv), ((r 20), aI k 12 pR), ((r 21), aI k 12 pW), ((r 22), aI k 12 pO), ((r 33), aI k 2 rw)] H := hP
  replace hD : va_D A [(o, eMM r mv fr (upd I 0 0) L), ((r 5), aB k 700 tp), ((r 16), aI k 37 sv), ((r 20), aI k 12 pR), ((r 21), aI k 12 pW), ((r 22), aI k 12 pO), ((r 33), aI k 2 rw)] := hD
  refine lv_iload_n hx hb dX8_mill_5 rfl (lv_at hl 1 rfl) ?_
  refine lv_if_lt (tgt := 17) hx hb dX8_mill_6 (by decide) (fun _ => ?_) (fun c => absurd hlo c)
  refine lv_aload_n hx hb dX8_mill_17 rfl (lv_at hl 0 rfl) ?_
  refine lv_iconst (v := 2) hx hb dX8_mill_18 ci_2 ?_
  refine xc_i (wc := [(o, eMM r mv fr (upd I 0 0) L)]) (wr := [((r 5), aB k 700 tp), ((r 16), aI k 37 sv), ((r 20), aI k 12 pR), ((r 21), aI k 12 pW), ((r 22), aI k 12 pO), ((r 33), aI k 2 rw)]) hP hD hS hA [0] [1, 2, 3, 4, 5, 6] rfl rfl rfl (by decide) (xrV ⟨hx, hb, hml, hown, hts⟩ hg (m_X8_refused l D k _ o r mv fr (upd I 0 0) L 2) hP hD [0] rfl rfl trivial (ci := 10) (q0 := 0) rfl rfl rfl q1265 q1267 qs39 q93 q1268 xo_X8_refused ⟨rfl, rfl⟩ ⟨Nat.le_of_ble_eq_true rfl, Nat.le_of_ble_eq_true rfl⟩ hl.1 (Nat.le_of_ble_eq_true rfl) dX8_mill_19 ⟨Nat.le_of_ble_eq_true rfl, Nat.le_of_ble_eq_true rfl⟩ rfl) (fun r_ u1 H locs hw hP hD hS hk => ?_)
  obtain ⟨rfl, eu1⟩ := hw
  replace hP : va_P D vwCl [(o, eMM r mv fr (upd (upd (upd I 0 0) 1 u1.2.1) 2 u1.2.2) L), ((r 5), aB k 700 tp), ((r 16), aI k 37 sv), ((r 20), aI k 12 pR), ((r 21), aI k 12 pW), ((r 22), aI k 12 pO), ((r 33), aI k 2 rw)] H := hP.sub [6, 0, 1, 2, 3, 4, 5] rfl
  replace hD : va_D A [(o, eMM r mv fr (upd (upd (upd I 0 0) 1 u1.2.1) 2 u1.2.2) L), ((r 5), aB k 700 tp), ((r 16), aI k 37 sv), ((r 20), aI k 12 pR), ((r 21), aI k 12 pW), ((r 22), aI k 12 pO), ((r 33), aI k 2 rw)] := hD.sub [6, 0, 1, 2, 3, 4, 5] (by decide) rfl
  exact xret_i hx hb hr hlocks (Nat.le_of_ble_eq_true rfl) (Nat.le_of_ble_eq_true rfl) hS.2.2 dX8_mill_22 (fun t ht => ⟨⟨u1.1, (u1.1, 0, u1.2.1, u1.2.2), rfl, ⟨rfl, (by subst eu1; exact rfl)⟩, by rw [ht]; exact hP, hD⟩, hS.F ht⟩)

def f_X8_millB  : Int32 × Int32 × Int32 × Int32 :=
  let u1 := f_X8_refused 2
  (u1.1, 0, u1.2.1, u1.2.2)
abbrev q_X8_millB (D : va_G) (k : KK) (o : Nat) (r : Nat → Nat) (mv : Value) (fr : Value) (I : Nat → Int32) (L : Nat → Int64) (tp : Nat → Int32) (sv : Nat → Int32) (pR : Nat → Int32) (pW : Nat → Int32) (pO : Nat → Int32) (rw : Nat → Int32) (x : Int32) (A : Nat → Prop) : Array Value → State → Outcome → State → Prop := va_Qi (fun (r_ : Int32) (u : Int32 × Int32 × Int32 × Int32) => r_ = u.1 ∧ u = f_X8_millB) (bx D (fun u => [(o, eMM r mv fr (upd (upd (upd I 0 u.2.1) 1 u.2.2.1) 2 u.2.2.2) L), ((r 5), aB k 700 tp), ((r 16), aI k 37 sv), ((r 20), aI k 12 pR), ((r 21), aI k 12 pW), ((r 22), aI k 12 pO), ((r 33), aI k 2 rw)]) A) A
abbrev rm_X8_millB : Room := { frames := 2, cells := 0, slots := 0, locals := 80 }
set_option maxHeartbeats 8000000 in
theorem m_X8_millB (l : Launch) (D : va_G) (k : KK) (sz : Nat) (o : Nat) (r : Nat → Nat) (mv : Value) (fr : Value) (I : Nat → Int32) (L : Nat → Int64) (tp : Nat → Int32) (sv : Nat → Int32) (pR : Nat → Int32) (pW : Nat → Int32) (pO : Nat → Int32) (rw : Nat → Int32) (x : Int32) (hlo : ¬ x < 0) (hhi : ¬ x ≤ I 6) : Met l yX8_mill (ws_ yX8_mill cX8_mill 3 (some .int)) rm_X8_millB (pcx D k [.ref o, .int x] sz [(o, eMM r mv fr I L), ((r 5), aB k 700 tp), ((r 16), aI k 37 sv), ((r 20), aI k 12 pR), ((r 21), aI k 12 pW), ((r 22), aI k 12 pO), ((r 33), aI k 2 rw)] (fun _ => True)) (q_X8_millB D k o r mv fr I L tp sv pR pW pO rw x (va_A [(o, eMM r mv fr I L), ((r 5), aB k 700 tp), ((r 16), aI k 37 sv), ((r 20), aI k 12 pR), ((r 21), aI k 12 pW), ((r 22), aI k 12 pO), ((r 33), aI k 2 rw)] sz)) 0 0 (va_A [(o, eMM r mv fr I L), ((r 5), aB k 700 tp), ((r 16), aI k 37 sv), ((r 20), aI k 12 pR), ((r 21), aI k 12 pW), ((r 22), aI k 12 pO), ((r 33), aI k 2 rw)] sz) := by
  refine Met.start (Qc := q_X8_millB D k o r mv fr I L tp sv pR pW pO rw x) (by decide) (Nat.le_of_ble_eq_true rfl) ?_
  intro p e s m below meth c A hx hb hr hlocks hml hown hin hts hg hP hD hA hAn hS hY hsz ls hl
  have hown : s.vm.findClass RX8 = some m.cls := hown
  have hl : lv_has ls 3 [(0, .ref o), (1, .int x)] := hl
  refine lv_aload_n hx hb dX8_mill_0 rfl (lv_at hl 0 rfl) ?_
  refine lv_iconst (v := 0) hx hb dX8_mill_1 ci_0 ?_
  refine va_put (D := D) (ci := 10) (v := .int 0) (C := RX8) (T := TX8) (N := 37) hx hb hts in_X8 tyX8 tyX8_ok nmX8 hown hg.1 hP hD hS 0 rfl rfl 0 (Nat.le_of_ble_eq_true rfl) (hts _ q1141) (fun _ h9 => h9) rfl ftX8_0 rfl rfl (Nat.le_of_ble_eq_true rfl) dX8_mill_2 (fun H locs hP hD hS => ?_)
  replace hP : va_P D vwCl [(o, eMM r mv fr (upd I 0 0) L), ((r 5), aB k 700 tp), ((r 16), aI k 37 sv), ((r 20), aI k 12 pR), ((r 21), aI k 12 pW), ((r 22), aI k 12 pO), ((r 33), aI k 2 rw)] H := hP
  replace hD : va_D A [(o, eMM r mv fr (upd I 0 0) L), ((r 5), aB k 700 tp), ((r 16), aI k 37 sv), ((r 20), aI k 12 pR), ((r 21), aI k 12 pW), ((r 22), aI k 12 pO), ((r 33), aI k 2 rw)] := hD
  refine lv_iload_n hx hb dX8_mill_5 rfl (lv_at hl 1 rfl) ?_
  refine lv_if_lt (tgt := 17) hx hb dX8_mill_6 (by decide) (fun c => absurd c hlo) (fun _ => ?_)
  refine lv_iload_n hx hb dX8_mill_9 rfl (lv_at hl 1 rfl) ?_
  refine lv_aload_n hx hb dX8_mill_10 rfl (lv_at hl 0 rfl) ?_
  refine va_get (D := D) (ci := 10) (v := .int (I 6)) (C := RX8) (T := TX8) (N := 37) hx hb hts in_X8 hown hg.1 hP 0 rfl rfl 6 (Nat.le_of_ble_eq_true rfl) (hts _ q1147) (fun _ h9 => h9) rfl dX8_mill_11 ?_
  refine lv_icmp_le (tgt := 23) hx hb dX8_mill_14 (by decide) (fun c => absurd c hhi) (fun _ => ?_)
  refine lv_aload_n hx hb dX8_mill_17 rfl (lv_at hl 0 rfl) ?_
  refine lv_iconst (v := 2) hx hb dX8_mill_18 ci_2 ?_
  refine xc_i (wc := [(o, eMM r mv fr (upd I 0 0) L)]) (wr := [((r 5), aB k 700 tp), ((r 16), aI k 37 sv), ((r 20), aI k 12 pR), ((r 21), aI k 12 pW), ((r 22), aI k 12 pO), ((r 33), aI k 2 rw)]) hP hD hS hA [0] [1, 2, 3, 4, 5, 6] rfl rfl rfl (by decide) (xrV ⟨hx, hb, hml, hown, hts⟩ hg (m_X8_refused l D k _ o r mv fr (upd I 0 0) L 2) hP hD [0] rfl rfl trivial (ci := 10) (q0 := 0) rfl rfl rfl q1265 q1267 qs39 q93 q1268 xo_X8_refused ⟨rfl, rfl⟩ ⟨Nat.le_of_ble_eq_true rfl, Nat.le_of_ble_eq_true rfl⟩ hl.1 (Nat.le_of_ble_eq_true rfl) dX8_mill_19 ⟨Nat.le_of_ble_eq_true rfl, Nat.le_of_ble_eq_true rfl⟩ rfl) (fun r_ u1 H locs hw hP hD hS hk => ?_)
  obtain ⟨rfl, eu1⟩ := hw
  replace hP : va_P D vwCl [(o, eMM r mv fr (upd (upd (upd I 0 0) 1 u1.2.1) 2 u1.2.2) L), ((r 5), aB k 700 tp), ((r 16), aI k 37 sv), ((r 20), aI k 12 pR), ((r 21), aI k 12 pW), ((r 22), aI k 12 pO), ((r 33), aI k 2 rw)] H := hP.sub [6, 0, 1, 2, 3, 4, 5] rfl
  replace hD : va_D A [(o, eMM r mv fr (upd (upd (upd I 0 0) 1 u1.2.1) 2 u1.2.2) L), ((r 5), aB k 700 tp), ((r 16), aI k 37 sv), ((r 20), aI k 12 pR), ((r 21), aI k 12 pW), ((r 22), aI k 12 pO), ((r 33), aI k 2 rw)] := hD.sub [6, 0, 1, 2, 3, 4, 5] (by decide) rfl
  exact xret_i hx hb hr hlocks (Nat.le_of_ble_eq_true rfl) (Nat.le_of_ble_eq_true rfl) hS.2.2 dX8_mill_22 (fun t ht => ⟨⟨u1.1, (u1.1, 0, u1.2.1, u1.2.2), rfl, ⟨rfl, (by subst eu1; exact rfl)⟩, by rw [ht]; exact hP, hD⟩, hS.F ht⟩)

/-- what the reading of a mill leaves -/
def rdX8 (I : Nat → Int32) (L : Nat → Int64) (tp : Nat → Int32) (x : Int32) (zj : Nat) : (Nat → Int32) × (Nat → Int64) × (Nat → Int32) × (Nat → Int32) × (Nat → Int32) × (Nat → Int32) × (Nat → Int32) × (Nat → Int32) × (Nat → Int64) × (Nat → Int32) :=
  let u4 := f_X8_next (upd (upd (upd (upd (upd (upd I 0 0) 7 x) 6 0) 8 0) 13 0) 9 0) L tp zj
  f_X8_readMill (upd (upd (upd (upd (upd (upd (upd (upd (upd I 0 0) 7 x) 6 0) 13 0) 8 u4.1) 9 u4.2.1) 10 u4.2.2.1) 11 u4.2.2.2.1) 12 u4.2.2.2.2.1) (vp_updL L 15 u4.2.2.2.2.2) tp (upd (upd (upd (upd (fun _ => 0) 0 (-1)) 2 (-1)) 4 (-1)) 5 (-1)) zj (fun _ => 0) (fun _ => 0) (fun _ => 0) (fun _ => 0) (fun _ => 0) (fun _ => 0) (fun _ => 0)
