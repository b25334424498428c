set_option maxRecDepth 100000
abbrev q_X4_init (D : va_G) (k : KK) (a : Nat) (A : Nat → Prop) : Array Value → State → Outcome → State → Prop := va_Qv (fun (ug : (Unit) × (Nat → Nat)) => ug.1 = ()) (bx D (fun ug => [(a, eST ug.2 (fun _ => 0) (fun _ => 0)), ((ug.2 0), aI k 5 (fun _ => 0)), ((ug.2 1), aI k 5 (fun _ => 0)), ((ug.2 2), aI k 5 (fun _ => 0)), ((ug.2 3), aI k 5 (fun _ => 0))]) A) A
abbrev rm_X4_init : Room := { frames := 1, cells := 4, slots := 20, locals := 40 }
theorem xo_X4_init : xok yX4_init 0 := by unfold xok; decide +kernel
set_option maxHeartbeats 8000000 in
theorem m_X4_init (l : Launch) (D : va_G) (k : KK) (sz : Nat) (a : Nat)  : Met l yX4_init (ws_ yX4_init cX4_init 1 none) rm_X4_init (pcx D k [.ref a] sz [(a, .inr (3, [.null, .null, .null, .null, .int 0, .int 0, .int 0, .int 0, .int 0, .int 0, .int 0, .int 0, .int 0, .int 0, .int 0, .int 0, .long 0, .int 0]))] (fun _ => True)) (q_X4_init D k a (va_A [(a, .inr (3, [.null, .null, .null, .null, .int 0, .int 0, .int 0, .int 0, .int 0, .int 0, .int 0, .int 0, .int 0, .int 0, .int 0, .int 0, .long 0, .int 0]))] sz)) 4 20 (va_A [(a, .inr (3, [.null, .null, .null, .null, .int 0, .int 0, .int 0, .int 0, .int 0, .int 0, .int 0, .int 0, .int 0, .int 0, .int 0, .int 0, .long 0, .int 0]))] sz) := by
  refine Met.start (Qc := q_X4_init D k a) (by decide) (Nat.le_of_ble_eq_true rfl) ?_
  intro p e s m below meth c A hx hb hr hlocks hml hown hin hts hg hP hD hA hAn hS hY hsz ls hl
  have hown : s.vm.findClass RX4 = some m.cls := hown
  have hl : lv_has ls 1 [(0, .ref a)] := hl
  refine lv_aload_n hx hb dX4_init_0 rfl (lv_at hl 0 rfl) ?_
  refine W.objInit hx hb hown (hts _ q232) (hts _ q113) (hts _ q114) rfl (by rw [hml]; exact hl.1) rfl dX4_init_1 (Nat.le_of_ble_eq_true rfl) (Nat.le_of_ble_eq_true rfl) ?_
  refine W.eq (g2 := F0 m 4 ls []) rfl ?_
  refine lv_aload_n hx hb dX4_init_4 rfl (lv_at hl 0 rfl) ?_
  refine lv_iconst (v := 5) hx hb dX4_init_5 ci_5 ?_
  refine xn_i hx hb (hts _ q306) hg hP hD hS hA xl_5 (by omega) (Nat.le_of_ble_eq_true rfl) (Nat.le_of_ble_eq_true rfl) dX4_init_6 (fun q1 H hP hD hS => ?_)
  replace hP : va_P D vwCl [(a, .inr (3, [.null, .null, .null, .null, .int 0, .int 0, .int 0, .int 0, .int 0, .int 0, .int 0, .int 0, .int 0, .int 0, .int 0, .int 0, .long 0, .int 0])), (q1, aI k 5 (fun _ => 0))] H := hP
  replace hD : va_D A [(a, .inr (3, [.null, .null, .null, .null, .int 0, .int 0, .int 0, .int 0, .int 0, .int 0, .int 0, .int 0, .int 0, .int 0, .int 0, .int 0, .long 0, .int 0])), (q1, aI k 5 (fun _ => 0))] := hD
  refine W.cs (cells' := 1) (slots' := 5) rfl rfl ?_
  refine va_putF (D := D) (ci := 3) (v := .ref q1) (C := RX4) (T := TX4) (N := 18) hx hb hts in_X4 tyX4 tyX4_ok nmX4 hown hg.1 hP hD hS 0 rfl rfl 0 (Nat.le_of_ble_eq_true rfl) (hts _ q233) (fun _ h9 => h9) rfl hin rfl ftX4_0 rfl rfl (Nat.le_of_ble_eq_true rfl) dX4_init_8 (fun H locs hP hD hS => ?_)
  replace hP : va_P D vwCl [(a, .inr (3, [.ref q1, .null, .null, .null, .int 0, .int 0, .int 0, .int 0, .int 0, .int 0, .int 0, .int 0, .int 0, .int 0, .int 0, .int 0, .long 0, .int 0])), (q1, aI k 5 (fun _ => 0))] H := hP
  replace hD : va_D A [(a, .inr (3, [.ref q1, .null, .null, .null, .int 0, .int 0, .int 0, .int 0, .int 0, .int 0, .int 0, .int 0, .int 0, .int 0, .int 0, .int 0, .long 0, .int 0])), (q1, aI k 5 (fun _ => 0))] := hD
  refine lv_aload_n hx hb dX4_init_11 rfl (lv_at hl 0 rfl) ?_
  refine lv_iconst (v := 5) hx hb dX4_init_12 ci_5 ?_
  refine xn_i hx hb (hts _ q306) hg hP hD hS hA xl_5 (by omega) (Nat.le_of_ble_eq_true rfl) (Nat.le_of_ble_eq_true rfl) dX4_init_13 (fun q2 H hP hD hS => ?_)
  replace hP : va_P D vwCl [(a, .inr (3, [.ref q1, .null, .null, .null, .int 0, .int 0, .int 0, .int 0, .int 0, .int 0, .int 0, .int 0, .int 0, .int 0, .int 0, .int 0, .long 0, .int 0])), (q1, aI k 5 (fun _ => 0)), (q2, aI k 5 (fun _ => 0))] H := hP
  replace hD : va_D A [(a, .inr (3, [.ref q1, .null, .null, .null, .int 0, .int 0, .int 0, .int 0, .int 0, .int 0, .int 0, .int 0, .int 0, .int 0, .int 0, .int 0, .long 0, .int 0])), (q1, aI k 5 (fun _ => 0)), (q2, aI k 5 (fun _ => 0))] := hD
  refine W.cs (cells' := 2) (slots' := 10) rfl rfl ?_
  refine va_putF (D := D) (ci := 3) (v := .ref q2) (C := RX4) (T := TX4) (N := 18) hx hb hts in_X4 tyX4 tyX4_ok nmX4 hown hg.1 hP hD hS 0 rfl rfl 1 (Nat.le_of_ble_eq_true rfl) (hts _ q235) (fun _ h9 => h9) rfl hin rfl ftX4_1 rfl rfl (Nat.le_of_ble_eq_true rfl) dX4_init_15 (fun H locs hP hD hS => ?_)
  replace hP : va_P D vwCl [(a, .inr (3, [.ref q1, .ref q2, .null, .null, .int 0, .int 0, .int 0, .int 0, .int 0, .int 0, .int 0, .int 0, .int 0, .int 0, .int 0, .int 0, .long 0, .int 0])), (q1, aI k 5 (fun _ => 0)), (q2, aI k 5 (fun _ => 0))] H := hP
  replace hD : va_D A [(a, .inr (3, [.ref q1, .ref q2, .null, .null, .int 0, .int 0, .int 0, .int 0, .int 0, .int 0, .int 0, .int 0, .int 0, .int 0, .int 0, .int 0, .long 0, .int 0])), (q1, aI k 5 (fun _ => 0)), (q2, aI k 5 (fun _ => 0))] := hD
  refine lv_aload_n hx hb dX4_init_18 rfl (lv_at hl 0 rfl) ?_
  refine lv_iconst (v := 5) hx hb dX4_init_19 ci_5 ?_
  refine xn_i hx hb (hts _ q306) hg hP hD hS hA xl_5 (by omega) (Nat.le_of_ble_eq_true rfl) (Nat.le_of_ble_eq_true rfl) dX4_init_20 (fun q3 H hP hD hS => ?_)
  replace hP : va_P D vwCl [(a, .inr (3, [.ref q1, .ref q2, .null, .null, .int 0, .int 0, .int 0, .int 0, .int 0, .int 0, .int 0, .int 0, .int 0, .int 0, .int 0, .int 0, .long 0, .int 0])), (q1, aI k 5 (fun _ => 0)), (q2, aI k 5 (fun _ => 0)), (q3, aI k 5 (fun _ => 0))] H := hP
  replace hD : va_D A [(a, .inr (3, [.ref q1, .ref q2, .null, .null, .int 0, .int 0, .int 0, .int 0, .int 0, .int 0, .int 0, .int 0, .int 0, .int 0, .int 0, .int 0, .long 0, .int 0])), (q1, aI k 5 (fun _ => 0)), (q2, aI k 5 (fun _ => 0)), (q3, aI k 5 (fun _ => 0))] := hD
  refine W.cs (cells' := 3) (slots' := 15) rfl rfl ?_
  refine va_putF (D := D) (ci := 3) (v := .ref q3) (C := RX4) (T := TX4) (N := 18) hx hb hts in_X4 tyX4 tyX4_ok nmX4 hown hg.1 hP hD hS 0 rfl rfl 2 (Nat.le_of_ble_eq_true rfl) (hts _ q237) (fun _ h9 => h9) rfl hin rfl ftX4_2 rfl rfl (Nat.le_of_ble_eq_true rfl) dX4_init_22 (fun H locs hP hD hS => ?_)
  replace hP : va_P D vwCl [(a, .inr (3, [.ref q1, .ref q2, .ref q3, .null, .int 0, .int 0, .int 0, .int 0, .int 0, .int 0, .int 0, .int 0, .int 0, .int 0, .int 0, .int 0, .long 0, .int 0])), (q1, aI k 5 (fun _ => 0)), (q2, aI k 5 (fun _ => 0)), (q3, aI k 5 (fun _ => 0))] H := hP
  replace hD : va_D A [(a, .inr (3, [.ref q1, .ref q2, .ref q3, .null, .int 0, .int 0, .int 0, .int 0, .int 0, .int 0, .int 0, .int 0, .int 0, .int 0, .int 0, .int 0, .long 0, .int 0])), (q1, aI k 5 (fun _ => 0)), (q2, aI k 5 (fun _ => 0)), (q3, aI k 5 (fun _ => 0))] := hD
  refine lv_aload_n hx hb dX4_init_25 rfl (lv_at hl 0 rfl) ?_
  refine lv_iconst (v := 5) hx hb dX4_init_26 ci_5 ?_
  refine xn_i hx hb (hts _ q306) hg hP hD hS hA xl_5 (by omega) (Nat.le_of_ble_eq_true rfl) (Nat.le_of_ble_eq_true rfl) dX4_init_27 (fun q4 H hP hD hS => ?_)
  replace hP : va_P D vwCl [(a, .inr (3, [.ref q1, .ref q2, .ref q3, .null, .int 0, .int 0, .int 0, .int 0, .int 0, .int 0, .int 0, .int 0, .int 0, .int 0, .int 0, .int 0, .long 0, .int 0])), (q1, aI k 5 (fun _ => 0)), (q2, aI k 5 (fun _ => 0)), (q3, aI k 5 (fun _ => 0)), (q4, aI k 5 (fun _ => 0))] H := hP
  replace hD : va_D A [(a, .inr (3, [.ref q1, .ref q2, .ref q3, .null, .int 0, .int 0, .int 0, .int 0, .int 0, .int 0, .int 0, .int 0, .int 0, .int 0, .int 0, .int 0, .long 0, .int 0])), (q1, aI k 5 (fun _ => 0)), (q2, aI k 5 (fun _ => 0)), (q3, aI k 5 (fun _ => 0)), (q4, aI k 5 (fun _ => 0))] := hD
  refine W.cs (cells' := 4) (slots' := 20) rfl rfl ?_
  refine va_putF (D := D) (ci := 3) (v := .ref q4) (C := RX4) (T := TX4) (N := 18) hx hb hts in_X4 tyX4 tyX4_ok nmX4 hown hg.1 hP hD hS 0 rfl rfl 3 (Nat.le_of_ble_eq_true rfl) (hts _ q239) (fun _ h9 => h9) rfl hin rfl ftX4_3 rfl rfl (Nat.le_of_ble_eq_true rfl) dX4_init_29 (fun H locs hP hD hS => ?_)
  replace hP : va_P D vwCl [(a, .inr (3, [.ref q1, .ref q2, .ref q3, .ref q4, .int 0, .int 0, .int 0, .int 0, .int 0, .int 0, .int 0, .int 0, .int 0, .int 0, .int 0, .int 0, .long 0, .int 0])), (q1, aI k 5 (fun _ => 0)), (q2, aI k 5 (fun _ => 0)), (q3, aI k 5 (fun _ => 0)), (q4, aI k 5 (fun _ => 0))] H := hP
  replace hD : va_D A [(a, .inr (3, [.ref q1, .ref q2, .ref q3, .ref q4, .int 0, .int 0, .int 0, .int 0, .int 0, .int 0, .int 0, .int 0, .int 0, .int 0, .int 0, .int 0, .long 0, .int 0])), (q1, aI k 5 (fun _ => 0)), (q2, aI k 5 (fun _ => 0)), (q3, aI k 5 (fun _ => 0)), (q4, aI k 5 (fun _ => 0))] := hD
  exact xret_v hx hb hr hlocks (by omega) (by omega) hS.2.2 dX4_init_32 (fun t ht => ⟨⟨((), (fun j => if j = 0 then q1 else if j = 1 then q2 else if j = 2 then q3 else if j = 3 then q4 else 0)), rfl, rfl, by rw [ht]; exact hP, hD⟩, hS.F ht⟩)

abbrev q_X6_init (D : va_G) (k : KK) (a : Nat) (A : Nat → Prop) : Array Value → State → Outcome → State → Prop := va_Qv (fun (ug : (Unit) × (Nat → Nat)) => ug.1 = ()) (bx D (fun ug => [(a, eRW ug.2 (fun _ => 0)), ((ug.2 0), aI k 8 (fun _ => 0))]) A) A
abbrev rm_X6_init : Room := { frames := 1, cells := 1, slots := 8, locals := 40 }
theorem xo_X6_init : xok yX6_init 0 := by unfold xok; decide +kernel
set_option maxHeartbeats 8000000 in
theorem m_X6_init (l : Launch) (D : va_G) (k : KK) (sz : Nat) (a : Nat)  : Met l yX6_init (ws_ yX6_init cX6_init 1 none) rm_X6_init (pcx D k [.ref a] sz [(a, .inr (5, [.null, .int 0]))] (fun _ => True)) (q_X6_init D k a (va_A [(a, .inr (5, [.null, .int 0]))] sz)) 1 8 (va_A [(a, .inr (5, [.null, .int 0]))] sz) := by
  refine Met.start (Qc := q_X6_init D k a) (by decide) (Nat.le_of_ble_eq_true rfl) ?_
  intro p e s m below meth c A hx hb hr hlocks hml hown hin hts hg hP hD hA hAn hS hY hsz ls hl
  have hown : s.vm.findClass RX6 = some m.cls := hown
  have hl : lv_has ls 1 [(0, .ref a)] := hl
  refine lv_aload_n hx hb dX6_init_0 rfl (lv_at hl 0 rfl) ?_
  refine W.objInit hx hb hown (hts _ q336) (hts _ q113) (hts _ q114) rfl (by rw [hml]; exact hl.1) rfl dX6_init_1 (Nat.le_of_ble_eq_true rfl) (Nat.le_of_ble_eq_true rfl) ?_
  refine W.eq (g2 := F0 m 4 ls []) rfl ?_
  refine lv_aload_n hx hb dX6_init_4 rfl (lv_at hl 0 rfl) ?_
  refine lv_bipush (v := 8) hx hb dX6_init_5 cb_8 ?_
  refine xn_i hx hb (hts _ q306) hg hP hD hS hA xl_8 (by omega) (Nat.le_of_ble_eq_true rfl) (Nat.le_of_ble_eq_true rfl) dX6_init_7 (fun q1 H hP hD hS => ?_)
  replace hP : va_P D vwCl [(a, .inr (5, [.null, .int 0])), (q1, aI k 8 (fun _ => 0))] H := hP
  replace hD : va_D A [(a, .inr (5, [.null, .int 0])), (q1, aI k 8 (fun _ => 0))] := hD
  refine W.cs (cells' := 1) (slots' := 8) rfl rfl ?_
  refine va_putF (D := D) (ci := 5) (v := .ref q1) (C := RX6) (T := TX6) (N := 2) hx hb hts in_X6 tyX6 tyX6_ok nmX6 hown hg.1 hP hD hS 0 rfl rfl 0 (Nat.le_of_ble_eq_true rfl) (hts _ q337) (fun _ h9 => h9) rfl hin rfl ftX6_0 rfl rfl (Nat.le_of_ble_eq_true rfl) dX6_init_9 (fun H locs hP hD hS => ?_)
  replace hP : va_P D vwCl [(a, .inr (5, [.ref q1, .int 0])), (q1, aI k 8 (fun _ => 0))] H := hP
  replace hD : va_D A [(a, .inr (5, [.ref q1, .int 0])), (q1, aI k 8 (fun _ => 0))] := hD
  exact xret_v hx hb hr hlocks (by omega) (by omega) hS.2.2 dX6_init_12 (fun t ht => ⟨⟨((), (fun j => if j = 0 then q1 else 0)), rfl, rfl, by rw [ht]; exact hP, hD⟩, hS.F ht⟩)

abbrev q_X7_init (D : va_G) (k : KK) (a : Nat) (A : Nat → Prop) : Array Value → State → Outcome → State → Prop := va_Qv (fun (ug : (Unit) × (Nat → Nat)) => ug.1 = ()) (bx D (fun ug => [(a, eLE ug.2 (fun _ => 0)), ((ug.2 0), aL k 5 (fun _ => 0)), ((ug.2 1), aL k 5 (fun _ => 0))]) A) A
abbrev rm_X7_init : Room := { frames := 1, cells := 2, slots := 10, locals := 40 }
theorem xo_X7_init : xok yX7_init 0 := by unfold xok; decide +kernel
set_option maxHeartbeats 8000000 in
theorem m_X7_init (l : Launch) (D : va_G) (k : KK) (sz : Nat) (a : Nat)  : Met l yX7_init (ws_ yX7_init cX7_init 1 none) rm_X7_init (pcx D k [.ref a] sz [(a, .inr (6, [.null, .null, .long 0]))] (fun _ => True)) (q_X7_init D k a (va_A [(a, .inr (6, [.null, .null, .long 0]))] sz)) 2 10 (va_A [(a, .inr (6, [.null, .null, .long 0]))] sz) := by
  refine Met.start (Qc := q_X7_init D k a) (by decide) (Nat.le_of_ble_eq_true rfl) ?_
  intro p e s m below meth c A hx hb hr hlocks hml hown hin hts hg hP hD hA hAn hS hY hsz ls hl
  have hown : s.vm.findClass RX7 = some m.cls := hown
  have hl : lv_has ls 1 [(0, .ref a)] := hl
  refine lv_aload_n hx hb dX7_init_0 rfl (lv_at hl 0 rfl) ?_
  refine W.objInit hx hb hown (hts _ q351) (hts _ q113) (hts _ q114) rfl (by rw [hml]; exact hl.1) rfl dX7_init_1 (Nat.le_of_ble_eq_true rfl) (Nat.le_of_ble_eq_true rfl) ?_
  refine W.eq (g2 := F0 m 4 ls []) rfl ?_
  refine lv_aload_n hx hb dX7_init_4 rfl (lv_at hl 0 rfl) ?_
  refine lv_iconst (v := 5) hx hb dX7_init_5 ci_5 ?_
  refine xn_l hx hb (hts _ q363) hg hP hD hS hA xl_5 (by omega) (Nat.le_of_ble_eq_true rfl) (Nat.le_of_ble_eq_true rfl) dX7_init_6 (fun q1 H hP hD hS => ?_)
  replace hP : va_P D vwCl [(a, .inr (6, [.null, .null, .long 0])), (q1, aL k 5 (fun _ => 0))] H := hP
  replace hD : va_D A [(a, .inr (6, [.null, .null, .long 0])), (q1, aL k 5 (fun _ => 0))] := hD
  refine W.cs (cells' := 1) (slots' := 5) rfl rfl ?_
  refine va_putF (D := D) (ci := 6) (v := .ref q1) (C := RX7) (T := TX7) (N := 3) hx hb hts in_X7 tyX7 tyX7_ok nmX7 hown hg.1 hP hD hS 0 rfl rfl 0 (Nat.le_of_ble_eq_true rfl) (hts _ q352) (fun _ h9 => h9) rfl hin rfl ftX7_0 rfl rfl (Nat.le_of_ble_eq_true rfl) dX7_init_8 (fun H locs hP hD hS => ?_)
  replace hP : va_P D vwCl [(a, .inr (6, [.ref q1, .null, .long 0])), (q1, aL k 5 (fun _ => 0))] H := hP
  replace hD : va_D A [(a, .inr (6, [.ref q1, .null, .long 0])), (q1, aL k 5 (fun _ => 0))] := hD
  refine lv_aload_n hx hb dX7_init_11 rfl (lv_at hl 0 rfl) ?_
  refine lv_iconst (v := 5) hx hb dX7_init_12 ci_5 ?_
  refine xn_l hx hb (hts _ q363) hg hP hD hS hA xl_5 (by omega) (Nat.le_of_ble_eq_true rfl) (Nat.le_of_ble_eq_true rfl) dX7_init_13 (fun q2 H hP hD hS => ?_)
  replace hP : va_P D vwCl [(a, .inr (6, [.ref q1, .null, .long 0])), (q1, aL k 5 (fun _ => 0)), (q2, aL k 5 (fun _ => 0))] H := hP
  replace hD : va_D A [(a, .inr (6, [.ref q1, .null, .long 0])), (q1, aL k 5 (fun _ => 0)), (q2, aL k 5 (fun _ => 0))] := hD
  refine W.cs (cells' := 2) (slots' := 10) rfl rfl ?_
  refine va_putF (D := D) (ci := 6) (v := .ref q2) (C := RX7) (T := TX7) (N := 3) hx hb hts in_X7 tyX7 tyX7_ok nmX7 hown hg.1 hP hD hS 0 rfl rfl 1 (Nat.le_of_ble_eq_true rfl) (hts _ q353) (fun _ h9 => h9) rfl hin rfl ftX7_1 rfl rfl (Nat.le_of_ble_eq_true rfl) dX7_init_15 (fun H locs hP hD hS => ?_)
  replace hP : va_P D vwCl [(a, .inr (6, [.ref q1, .ref q2, .long 0])), (q1, aL k 5 (fun _ => 0)), (q2, aL k 5 (fun _ => 0))] H := hP
  replace hD : va_D A [(a, .inr (6, [.ref q1, .ref q2, .long 0])), (q1, aL k 5 (fun _ => 0)), (q2, aL k 5 (fun _ => 0))] := hD
  exact xret_v hx hb hr hlocks (by omega) (by omega) hS.2.2 dX7_init_18 (fun t ht => ⟨⟨((), (fun j => if j = 0 then q1 else if j = 1 then q2 else 0)), rfl, rfl, by rw [ht]; exact hP, hD⟩, hS.F ht⟩)

abbrev q_X9_init (D : va_G) (k : KK) (a : Nat) (A : Nat → Prop) : Array Value → State → Outcome → State → Prop := va_Qv (fun (ug : (Unit) × (Nat → Nat)) => ug.1 = ()) (bx D (fun ug => [(a, eWK ug.2 (upd (upd (fun _ => 0) 8 (-1)) 12 (-1))), ((ug.2 0), aSZ k 5 (fun _ => none)), ((ug.2 1), aOR k 4 (fun _ => none)), ((ug.2 2), aI k 6 (fun _ => 0))]) A) A
abbrev rm_X9_init : Room := { frames := 1, cells := 3, slots := 15, locals := 40 }
theorem xo_X9_init : xok yX9_init 0 := by unfold xok; decide +kernel
set_option maxHeartbeats 8000000 in
theorem m_X9_init (l : Launch) (D : va_G) (k : KK) (sz : Nat) (a : Nat)  : Met l yX9_init (ws_ yX9_init cX9_init 1 none) rm_X9_init (pcx D k [.ref a] sz [(a, .inr (7, [.null, .null, .null, .int 0, .int 0, .int 0, .int 0, .int 0, .int 0, .int 0, .int 0, .int 0, .int 0]))] (fun _ => True)) (q_X9_init D k a (va_A [(a, .inr (7, [.null, .null, .null, .int 0, .int 0, .int 0, .int 0, .int 0, .int 0, .int 0, .int 0, .int 0, .int 0]))] sz)) 3 15 (va_A [(a, .inr (7, [.null, .null, .null, .int 0, .int 0, .int 0, .int 0, .int 0, .int 0, .int 0, .int 0, .int 0, .int 0]))] sz) := by
  refine Met.start (Qc := q_X9_init D k a) (by decide) (Nat.le_of_ble_eq_true rfl) ?_
  intro p e s m below meth c A hx hb hr hlocks hml hown hin hts hg hP hD hA hAn hS hY hsz ls hl
  have hown : s.vm.findClass RX9 = some m.cls := hown
  have hl : lv_has ls 1 [(0, .ref a)] := hl
  refine lv_aload_n hx hb dX9_init_0 rfl (lv_at hl 0 rfl) ?_
  refine W.objInit hx hb hown (hts _ q485) (hts _ q113) (hts _ q114) rfl (by rw [hml]; exact hl.1) rfl dX9_init_1 (Nat.le_of_ble_eq_true rfl) (Nat.le_of_ble_eq_true rfl) ?_
  refine W.eq (g2 := F0 m 4 ls []) rfl ?_
  refine lv_aload_n hx hb dX9_init_4 rfl (lv_at hl 0 rfl) ?_
  refine lv_iconst (v := 5) hx hb dX9_init_5 ci_5 ?_
  refine xn_q (t0 := 6) hx hb hown (hts _ q486) hg.2.2.2.2.2.2.1 hg hP hD hS hA rfl xl_5 (by omega) (Nat.le_of_ble_eq_true rfl) (Nat.le_of_ble_eq_true rfl) dX9_init_6 (fun q1 H hP hD hS => ?_)
  replace hP : va_P D vwCl [(a, .inr (7, [.null, .null, .null, .int 0, .int 0, .int 0, .int 0, .int 0, .int 0, .int 0, .int 0, .int 0, .int 0])), (q1, aSZ k 5 (fun _ => none))] H := hP
  replace hD : va_D A [(a, .inr (7, [.null, .null, .null, .int 0, .int 0, .int 0, .int 0, .int 0, .int 0, .int 0, .int 0, .int 0, .int 0])), (q1, aSZ k 5 (fun _ => none))] := hD
  refine W.cs (cells' := 1) (slots' := 5) rfl rfl ?_
  refine va_putF (D := D) (ci := 7) (v := .ref q1) (C := RX9) (T := TX9) (N := 13) hx hb hts in_X9 tyX9 tyX9_ok nmX9 hown hg.1 hP hD hS 0 rfl rfl 0 (Nat.le_of_ble_eq_true rfl) (hts _ q490) (fun _ h9 => h9) rfl hin rfl ftX9_0 rfl rfl (Nat.le_of_ble_eq_true rfl) dX9_init_9 (fun H locs hP hD hS => ?_)
  replace hP : va_P D vwCl [(a, .inr (7, [.ref q1, .null, .null, .int 0, .int 0, .int 0, .int 0, .int 0, .int 0, .int 0, .int 0, .int 0, .int 0])), (q1, aSZ k 5 (fun _ => none))] H := hP
  replace hD : va_D A [(a, .inr (7, [.ref q1, .null, .null, .int 0, .int 0, .int 0, .int 0, .int 0, .int 0, .int 0, .int 0, .int 0, .int 0])), (q1, aSZ k 5 (fun _ => none))] := hD
  refine lv_aload_n hx hb dX9_init_12 rfl (lv_at hl 0 rfl) ?_
  refine lv_iconst (v := 4) hx hb dX9_init_13 ci_4 ?_
  refine xn_q (t0 := 7) hx hb hown (hts _ q488) hg.2.2.2.2.2.2.2.1 hg hP hD hS hA rfl xl_4 (by omega) (Nat.le_of_ble_eq_true rfl) (Nat.le_of_ble_eq_true rfl) dX9_init_14 (fun q2 H hP hD hS => ?_)
  replace hP : va_P D vwCl [(a, .inr (7, [.ref q1, .null, .null, .int 0, .int 0, .int 0, .int 0, .int 0, .int 0, .int 0, .int 0, .int 0, .int 0])), (q1, aSZ k 5 (fun _ => none)), (q2, aOR k 4 (fun _ => none))] H := hP
  replace hD : va_D A [(a, .inr (7, [.ref q1, .null, .null, .int 0, .int 0, .int 0, .int 0, .int 0, .int 0, .int 0, .int 0, .int 0, .int 0])), (q1, aSZ k 5 (fun _ => none)), (q2, aOR k 4 (fun _ => none))] := hD
  refine W.cs (cells' := 2) (slots' := 9) rfl rfl ?_
  refine va_putF (D := D) (ci := 7) (v := .ref q2) (C := RX9) (T := TX9) (N := 13) hx hb hts in_X9 tyX9 tyX9_ok nmX9 hown hg.1 hP hD hS 0 rfl rfl 1 (Nat.le_of_ble_eq_true rfl) (hts _ q494) (fun _ h9 => h9) rfl hin rfl ftX9_1 rfl rfl (Nat.le_of_ble_eq_true rfl) dX9_init_17 (fun H locs hP hD hS => ?_)
  replace hP : va_P D vwCl [(a, .inr (7, [.ref q1, .ref q2, .null, .int 0, .int 0, .int 0, .int 0, .int 0, .int 0, .int 0, .int 0, .int 0, .int 0])), (q1, aSZ k 5 (fun _ => none)), (q2, aOR k 4 (fun _ => none))] H := hP
  replace hD : va_D A [(a, .inr (7, [.ref q1, .ref q2, .null, .int 0, .int 0, .int 0, .int 0, .int 0, .int 0, .int 0, .int 0, .int 0, .int 0])), (q1, aSZ k 5 (fun _ => none)), (q2, aOR k 4 (fun _ => none))] := hD
  refine lv_aload_n hx hb dX9_init_20 rfl (lv_at hl 0 rfl) ?_
  refine lv_bipush (v := 6) hx hb dX9_init_21 cb_6 ?_
  refine xn_i hx hb (hts _ q306) hg hP hD hS hA xl_6 (by omega) (Nat.le_of_ble_eq_true rfl) (Nat.le_of_ble_eq_true rfl) dX9_init_23 (fun q3 H hP hD hS => ?_)
  replace hP : va_P D vwCl [(a, .inr (7, [.ref q1, .ref q2, .null, .int 0, .int 0, .int 0, .int 0, .int 0, .int 0, .int 0, .int 0, .int 0, .int 0])), (q1, aSZ k 5 (fun _ => none)), (q2, aOR k 4 (fun _ => none)), (q3, aI k 6 (fun _ => 0))] H := hP
  replace hD : va_D A [(a, .inr (7, [.ref q1, .ref q2, .null, .int 0, .int 0, .int 0, .int 0, .int 0, .int 0, .int 0, .int 0, .int 0, .int 0])), (q1, aSZ k 5 (fun _ => none)), (q2, aOR k 4 (fun _ => none)), (q3, aI k 6 (fun _ => 0))] := hD
  refine W.cs (cells' := 3) (slots' := 15) rfl rfl ?_
  refine va_putF (D := D) (ci := 7) (v := .ref q3) (C := RX9) (T := TX9) (N := 13) hx hb hts in_X9 tyX9 tyX9_ok nmX9 hown hg.1 hP hD hS 0 rfl rfl 2 (Nat.le_of_ble_eq_true rfl) (hts _ q497) (fun _ h9 => h9) rfl hin rfl ftX9_2 rfl rfl (Nat.le_of_ble_eq_true rfl) dX9_init_25 (fun H locs hP hD hS => ?_)
  replace hP : va_P D vwCl [(a, .inr (7, [.ref q1, .ref q2, .ref q3, .int 0, .int 0, .int 0, .int 0, .int 0, .int 0, .int 0, .int 0, .int 0, .int 0])), (q1, aSZ k 5 (fun _ => none)), (q2, aOR k 4 (fun _ => none)), (q3, aI k 6 (fun _ => 0))] H := hP
  replace hD : va_D A [(a, .inr (7, [.ref q1, .ref q2, .ref q3, .int 0, .int 0, .int 0, .int 0, .int 0, .int 0, .int 0, .int 0, .int 0, .int 0])), (q1, aSZ k 5 (fun _ => none)), (q2, aOR k 4 (fun _ => none)), (q3, aI k 6 (fun _ => 0))] := hD
  refine lv_aload_n hx hb dX9_init_28 rfl (lv_at hl 0 rfl) ?_
  refine lv_iconst (v := (-1)) hx hb dX9_init_29 ci_m1 ?_
  refine va_put (D := D) (ci := 7) (v := .int (-1)) (C := RX9) (T := TX9) (N := 13) hx hb hts in_X9 tyX9 tyX9_ok nmX9 hown hg.1 hP hD hS 0 rfl rfl 8 (Nat.le_of_ble_eq_true rfl) (hts _ q519) (fun _ h9 => h9) rfl ftX9_8 rfl rfl (Nat.le_of_ble_eq_true rfl) dX9_init_30 (fun H locs hP hD hS => ?_)
  replace hP : va_P D vwCl [(a, .inr (7, [.ref q1, .ref q2, .ref q3, .int 0, .int 0, .int 0, .int 0, .int 0, .int (-1), .int 0, .int 0, .int 0, .int 0])), (q1, aSZ k 5 (fun _ => none)), (q2, aOR k 4 (fun _ => none)), (q3, aI k 6 (fun _ => 0))] H := hP
  replace hD : va_D A [(a, .inr (7, [.ref q1, .ref q2, .ref q3, .int 0, .int 0, .int 0, .int 0, .int 0, .int (-1), .int 0, .int 0, .int 0, .int 0])), (q1, aSZ k 5 (fun _ => none)), (q2, aOR k 4 (fun _ => none)), (q3, aI k 6 (fun _ => 0))] := hD
  refine lv_aload_n hx hb dX9_init_33 rfl (lv_at hl 0 rfl) ?_
  refine lv_iconst (v := (-1)) hx hb dX9_init_34 ci_m1 ?_
  refine va_put (D := D) (ci := 7) (v := .int (-1)) (C := RX9) (T := TX9) (N := 13) hx hb hts in_X9 tyX9 tyX9_ok nmX9 hown hg.1 hP hD hS 0 rfl rfl 12 (Nat.le_of_ble_eq_true rfl) (hts _ q536) (fun _ h9 => h9) rfl ftX9_12 rfl rfl (Nat.le_of_ble_eq_true rfl) dX9_init_35 (fun H locs hP hD hS => ?_)
  replace hP : va_P D vwCl [(a, .inr (7, [.ref q1, .ref q2, .ref q3, .int 0, .int 0, .int 0, .int 0, .int 0, .int (-1), .int 0, .int 0, .int 0, .int (-1)])), (q1, aSZ k 5 (fun _ => none)), (q2, aOR k 4 (fun _ => none)), (q3, aI k 6 (fun _ => 0))] H := hP
  replace hD : va_D A [(a, .inr (7, [.ref q1, .ref q2, .ref q3, .int 0, .int 0, .int 0, .int 0, .int 0, .int (-1), .int 0, .int 0, .int 0, .int (-1)])), (q1, aSZ k 5 (fun _ => none)), (q2, aOR k 4 (fun _ => none)), (q3, aI k 6 (fun _ => 0))] := hD
  exact xret_v hx hb hr hlocks (by omega) (by omega) hS.2.2 dX9_init_38 (fun t ht => ⟨⟨((), (fun j => if j = 0 then q1 else if j = 1 then q2 else if j = 2 then q3 else 0)), rfl, rfl, by rw [ht]; exact hP, hD⟩, hS.F ht⟩)

abbrev q_X10_initS (D : va_G) (k : KK) (a : Nat) (nm : Nat) (A : Nat → Prop) : Array Value → State → Outcome → State → Prop := va_Qv (fun (u : Unit) => u = ()) (bx D (fun u => [(a, .inr (8, [.ref nm, .int 0, .int 0]))]) A) A
abbrev rm_X10_initS : Room := { frames := 1, cells := 0, slots := 0, locals := 40 }
theorem xo_X10_init : xok yX10_init 1 := by unfold xok; decide +kernel
set_option maxHeartbeats 8000000 in
theorem m_X10_initS (l : Launch) (D : va_G) (k : KK) (sz : Nat) (a : Nat) (nm : Nat)  : Met l yX10_init (ws_ yX10_init cX10_init 2 none) rm_X10_initS (pcx D k [.ref a, .ref nm] sz [(a, .inr (8, [.null, .int 0, .int 0]))] (fun _ => True)) (q_X10_initS D k a nm (va_A [(a, .inr (8, [.null, .int 0, .int 0]))] sz)) 0 0 (va_A [(a, .inr (8, [.null, .int 0, .int 0]))] sz) := by
  refine Met.start (Qc := q_X10_initS D k a nm) (by decide) (Nat.le_of_ble_eq_true rfl) ?_
  intro p e s m below meth c A hx hb hr hlocks hml hown hin hts hg hP hD hA hAn hS hY hsz ls hl
  have hown : s.vm.findClass RX10 = some m.cls := hown
  have hl : lv_has ls 2 [(0, .ref a), (1, .ref nm)] := hl
  refine lv_aload_n hx hb dX10_init_0 rfl (lv_at hl 0 rfl) ?_
  refine W.objInit hx hb hown (hts _ q808) (hts _ q113) (hts _ q114) rfl (by rw [hml]; exact hl.1) rfl dX10_init_1 (Nat.le_of_ble_eq_true rfl) (Nat.le_of_ble_eq_true rfl) ?_
  refine W.eq (g2 := F0 m 4 ls []) rfl ?_
  refine lv_aload_n hx hb dX10_init_4 rfl (lv_at hl 0 rfl) ?_
  refine lv_aload_n hx hb dX10_init_5 rfl (lv_at hl 1 rfl) ?_
  refine va_putF (D := D) (ci := 8) (v := .ref nm) (C := RX11) (T := TX11) (N := 3) hx hb hts in_X11 tyX11 tyX11_ok nmX11 hown hg.1 hP hD hS 0 rfl rfl 0 (Nat.le_of_ble_eq_true rfl) (hts _ q815) (fun _ h9 => h9) rfl hin rfl ftX11_0 rfl rfl (Nat.le_of_ble_eq_true rfl) dX10_init_6 (fun H locs hP hD hS => ?_)
  replace hP : va_P D vwCl [(a, .inr (8, [.ref nm, .int 0, .int 0]))] H := hP
  replace hD : va_D A [(a, .inr (8, [.ref nm, .int 0, .int 0]))] := hD
  exact xret_v hx hb hr hlocks (Nat.le_of_ble_eq_true rfl) (Nat.le_of_ble_eq_true rfl) hS.2.2 dX10_init_9 (fun t ht => ⟨⟨(), rfl, rfl, by rw [ht]; exact hP, hD⟩, hS.F ht⟩)

abbrev q_X10_initO (D : va_G) (k : KK) (a : Nat) (nm : Nat) (A : Nat → Prop) : Array Value → State → Outcome → State → Prop := va_Qv (fun (u : Unit) => u = ()) (bx D (fun u => [(a, .inr (9, [.ref nm, .int 0, .null]))]) A) A
abbrev rm_X10_initO : Room := { frames := 1, cells := 0, slots := 0, locals := 40 }
set_option maxHeartbeats 8000000 in
theorem m_X10_initO (l : Launch) (D : va_G) (k : KK) (sz : Nat) (a : Nat) (nm : Nat)  : Met l yX10_init (ws_ yX10_init cX10_init 2 none) rm_X10_initO (pcx D k [.ref a, .ref nm] sz [(a, .inr (9, [.null, .int 0, .null]))] (fun _ => True)) (q_X10_initO D k a nm (va_A [(a, .inr (9, [.null, .int 0, .null]))] sz)) 0 0 (va_A [(a, .inr (9, [.null, .int 0, .null]))] sz) := by
  refine Met.start (Qc := q_X10_initO D k a nm) (by decide) (Nat.le_of_ble_eq_true rfl) ?_
  intro p e s m below meth c A hx hb hr hlocks hml hown hin hts hg hP hD hA hAn hS hY hsz ls hl
  have hown : s.vm.findClass RX10 = some m.cls := hown
  have hl : lv_has ls 2 [(0, .ref a), (1, .ref nm)] := hl
  refine lv_aload_n hx hb dX10_init_0 rfl (lv_at hl 0 rfl) ?_
  refine W.objInit hx hb hown (hts _ q808) (hts _ q113) (hts _ q114) rfl (by rw [hml]; exact hl.1) rfl dX10_init_1 (Nat.le_of_ble_eq_true rfl) (Nat.le_of_ble_eq_true rfl) ?_
  refine W.eq (g2 := F0 m 4 ls []) rfl ?_
  refine lv_aload_n hx hb dX10_init_4 rfl (lv_at hl 0 rfl) ?_
  refine lv_aload_n hx hb dX10_init_5 rfl (lv_at hl 1 rfl) ?_
  refine va_putF (D := D) (ci := 9) (v := .ref nm) (C := RX12) (T := TX12) (N := 3) hx hb hts in_X12 tyX12 tyX12_ok nmX12 hown hg.1 hP hD hS 0 rfl rfl 0 (Nat.le_of_ble_eq_true rfl) (hts _ q815) (fun _ h9 => h9) rfl hin rfl ftX12_0 rfl rfl (Nat.le_of_ble_eq_true rfl) dX10_init_6 (fun H locs hP hD hS => ?_)
  replace hP : va_P D vwCl [(a, .inr (9, [.ref nm, .int 0, .null]))] H := hP
  replace hD : va_D A [(a, .inr (9, [.ref nm, .int 0, .null]))] := hD
  exact xret_v hx hb hr hlocks (Nat.le_of_ble_eq_true rfl) (Nat.le_of_ble_eq_true rfl) hS.2.2 dX10_init_9 (fun t ht => ⟨⟨(), rfl, rfl, by rw [ht]; exact hP, hD⟩, hS.F ht⟩)

abbrev q_X11_init (D : va_G) (k : KK) (a : Nat) (nm : Nat) (x : Int32) (y : Int32) (A : Nat → Prop) : Array Value → State → Outcome → State → Prop := va_Qv (fun (u : Unit) => u = ()) (bx D (fun u => [(a, eSZ (fun _ => nm) (upd (upd (fun _ => 0) 1 x) 2 y))]) A) A
abbrev rm_X11_init : Room := { frames := 2, cells := 0, slots := 0, locals := 80 }
theorem xo_X11_init : xok yX11_init 3 := by unfold xok; decide +kernel
set_option maxHeartbeats 8000000 in
theorem m_X11_init (l : Launch) (D : va_G) (k : KK) (sz : Nat) (a : Nat) (nm : Nat) (x : Int32) (y : Int32)  : Met l yX11_init (ws_ yX11_init cX11_init 4 none) rm_X11_init (pcx D k [.ref a, .ref nm, .int x, .int y] sz [(a, .inr (8, [.null, .int 0, .int 0]))] (fun _ => True)) (q_X11_init D k a nm x y (va_A [(a, .inr (8, [.null, .int 0, .int 0]))] sz)) 0 0 (va_A [(a, .inr (8, [.null, .int 0, .int 0]))] sz) := by
  refine Met.start (Qc := q_X11_init D k a nm x y) (by decide) (Nat.le_of_ble_eq_true rfl) ?_
  intro p e s m below meth c A hx hb hr hlocks hml hown hin hts hg hP hD hA hAn hS hY hsz ls hl
  have hown : s.vm.findClass RX11 = some m.cls := hown
  have hl : lv_has ls 4 [(0, .ref a), (1, .ref nm), (2, .int x), (3, .int y)] := hl
  refine lv_aload_n hx hb dX11_init_0 rfl (lv_at hl 0 rfl) ?_
  refine lv_aload_n hx hb dX11_init_1 rfl (lv_at hl 1 rfl) ?_
  refine xc_v (wc := [(a, .inr (8, [.null, .int 0, .int 0]))]) (wr := []) hP hD hS hA [0] [] rfl rfl rfl (by decide) (xrI ⟨hx, hb, hml, hown, hts⟩ hg (m_X10_initS l D k _ a nm) hP hD [0] rfl rfl trivial q805 q806 q100 q807 rfl xo_X10_init ⟨rfl, rfl⟩ ⟨Nat.le_of_ble_eq_true rfl, Nat.le_of_ble_eq_true rfl⟩ hl.1 (Nat.le_of_ble_eq_true rfl) dX11_init_2 ⟨Nat.le_of_ble_eq_true rfl, Nat.le_of_ble_eq_true rfl⟩ rfl) (fun u1 H locs hw hP hD hS hk => ?_)
  replace hP : va_P D vwCl [(a, .inr (8, [.ref nm, .int 0, .int 0]))] H := hP.sub [0] rfl
  replace hD : va_D A [(a, .inr (8, [.ref nm, .int 0, .int 0]))] := hD.sub [0] (by decide) rfl
  refine lv_aload_n hx hb dX11_init_5 rfl (lv_at hl 0 rfl) ?_
  refine lv_iload_n hx hb dX11_init_6 rfl (lv_at hl 2 rfl) ?_
  refine va_putF (D := D) (ci := 8) (v := .int x) (C := RX11) (T := TX11) (N := 3) hx hb hts in_X11 tyX11 tyX11_ok nmX11 hown hg.1 hP hD hS 0 rfl rfl 1 (Nat.le_of_ble_eq_true rfl) (hts _ q809) (fun _ h9 => h9) rfl hin rfl ftX11_1 rfl rfl (Nat.le_of_ble_eq_true rfl) dX11_init_7 (fun H locs hP hD hS => ?_)
  replace hP : va_P D vwCl [(a, .inr (8, [.ref nm, .int x, .int 0]))] H := hP
  replace hD : va_D A [(a, .inr (8, [.ref nm, .int x, .int 0]))] := hD
  refine lv_aload_n hx hb dX11_init_10 rfl (lv_at hl 0 rfl) ?_
  refine lv_iload_n hx hb dX11_init_11 rfl (lv_at hl 3 rfl) ?_
  refine va_putF (D := D) (ci := 8) (v := .int y) (C := RX11) (T := TX11) (N := 3) hx hb hts in_X11 tyX11 tyX11_ok nmX11 hown hg.1 hP hD hS 0 rfl rfl 2 (Nat.le_of_ble_eq_true rfl) (hts _ q812) (fun _ h9 => h9) rfl hin rfl ftX11_2 rfl rfl (Nat.le_of_ble_eq_true rfl) dX11_init_12 (fun H locs hP hD hS => ?_)
  replace hP : va_P D vwCl [(a, .inr (8, [.ref nm, .int x, .int y]))] H := hP
  replace hD : va_D A [(a, .inr (8, [.ref nm, .int x, .int y]))] := hD
  exact xret_v hx hb hr hlocks (Nat.le_of_ble_eq_true rfl) (Nat.le_of_ble_eq_true rfl) hS.2.2 dX11_init_15 (fun t ht => ⟨⟨(), rfl, rfl, by rw [ht]; exact hP, hD⟩, hS.F ht⟩)

abbrev q_X12_init (D : va_G) (k : KK) (a : Nat) (nm : Nat) (x : Int32) (A : Nat → Prop) : Array Value → State → Outcome → State → Prop := va_Qv (fun (ug : (Unit) × (Nat)) => ug.1 = ()) (bx D (fun ug => [(a, eOR (fun j => if j = 0 then nm else ug.2) (upd (fun _ => 0) 1 x)), (ug.2, aI k 5 (fun _ => 0))]) A) A
abbrev rm_X12_init : Room := { frames := 2, cells := 1, slots := 5, locals := 80 }
theorem xo_X12_init : xok yX12_init 2 := by unfold xok; decide +kernel
set_option maxHeartbeats 8000000 in
theorem m_X12_init (l : Launch) (D : va_G) (k : KK) (sz : Nat) (a : Nat) (nm : Nat) (x : Int32)  : Met l yX12_init (ws_ yX12_init cX12_init 3 none) rm_X12_init (pcx D k [.ref a, .ref nm, .int x] sz [(a, .inr (9, [.null, .int 0, .null]))] (fun _ => True)) (q_X12_init D k a nm x (va_A [(a, .inr (9, [.null, .int 0, .null]))] sz)) 1 5 (va_A [(a, .inr (9, [.null, .int 0, .null]))] sz) := by
  refine Met.start (Qc := q_X12_init D k a nm x) (by decide) (Nat.le_of_ble_eq_true rfl) ?_
  intro p e s m below meth c A hx hb hr hlocks hml hown hin hts hg hP hD hA hAn hS hY hsz ls hl
  have hown : s.vm.findClass RX12 = some m.cls := hown
  have hl : lv_has ls 3 [(0, .ref a), (1, .ref nm), (2, .int x)] := hl
  refine lv_aload_n hx hb dX12_init_0 rfl (lv_at hl 0 rfl) ?_
  refine lv_aload_n hx hb dX12_init_1 rfl (lv_at hl 1 rfl) ?_
  refine xc_v (wc := [(a, .inr (9, [.null, .int 0, .null]))]) (wr := []) hP hD hS hA [0] [] rfl rfl rfl (by decide) (xrI ⟨hx, hb, hml, hown, hts⟩ hg (m_X10_initO l D k _ a nm) hP hD [0] rfl rfl trivial q837 q806 q100 q807 rfl xo_X10_init ⟨rfl, rfl⟩ ⟨Nat.le_of_ble_eq_true rfl, Nat.le_of_ble_eq_true rfl⟩ hl.1 (Nat.le_of_ble_eq_true rfl) dX12_init_2 ⟨Nat.le_of_ble_eq_true rfl, Nat.le_of_ble_eq_true rfl⟩ rfl) (fun u1 H locs hw hP hD hS hk => ?_)
  replace hP : va_P D vwCl [(a, .inr (9, [.ref nm, .int 0, .null]))] H := hP.sub [0] rfl
  replace hD : va_D A [(a, .inr (9, [.ref nm, .int 0, .null]))] := hD.sub [0] (by decide) rfl
  refine lv_aload_n hx hb dX12_init_5 rfl (lv_at hl 0 rfl) ?_
  refine lv_iconst (v := 5) hx hb dX12_init_6 ci_5 ?_
  refine xn_i hx hb (hts _ q306) hg hP hD hS hA xl_5 (by omega) (Nat.le_of_ble_eq_true rfl) (Nat.le_of_ble_eq_true rfl) dX12_init_7 (fun q2 H hP hD hS => ?_)
  replace hP : va_P D vwCl [(a, .inr (9, [.ref nm, .int 0, .null])), (q2, aI k 5 (fun _ => 0))] H := hP
  replace hD : va_D A [(a, .inr (9, [.ref nm, .int 0, .null])), (q2, aI k 5 (fun _ => 0))] := hD
  refine W.cs (cells' := 1) (slots' := 5) rfl rfl ?_
  refine va_putF (D := D) (ci := 9) (v := .ref q2) (C := RX12) (T := TX12) (N := 3) hx hb hts in_X12 tyX12 tyX12_ok nmX12 hown hg.1 hP hD hS 0 rfl rfl 2 (Nat.le_of_ble_eq_true rfl) (hts _ q840) (fun _ h9 => h9) rfl hin rfl ftX12_2 rfl rfl (Nat.le_of_ble_eq_true rfl) dX12_init_9 (fun H locs hP hD hS => ?_)
  replace hP : va_P D vwCl [(a, .inr (9, [.ref nm, .int 0, .ref q2])), (q2, aI k 5 (fun _ => 0))] H := hP
  replace hD : va_D A [(a, .inr (9, [.ref nm, .int 0, .ref q2])), (q2, aI k 5 (fun _ => 0))] := hD
  refine lv_aload_n hx hb dX12_init_12 rfl (lv_at hl 0 rfl) ?_
  refine lv_iload_n hx hb dX12_init_13 rfl (lv_at hl 2 rfl) ?_
  refine va_putF (D := D) (ci := 9) (v := .int x) (C := RX12) (T := TX12) (N := 3) hx hb hts in_X12 tyX12 tyX12_ok nmX12 hown hg.1 hP hD hS 0 rfl rfl 1 (Nat.le_of_ble_eq_true rfl) (hts _ q838) (fun _ h9 => h9) rfl hin rfl ftX12_1 rfl rfl (Nat.le_of_ble_eq_true rfl) dX12_init_14 (fun H locs hP hD hS => ?_)
  replace hP : va_P D vwCl [(a, .inr (9, [.ref nm, .int x, .ref q2])), (q2, aI k 5 (fun _ => 0))] H := hP
  replace hD : va_D A [(a, .inr (9, [.ref nm, .int x, .ref q2])), (q2, aI k 5 (fun _ => 0))] := hD
  exact xret_v hx hb hr hlocks (by omega) (by omega) hS.2.2 dX12_init_17 (fun t ht => ⟨⟨((), q2), rfl, rfl, by rw [ht]; exact hP, hD⟩, hS.F ht⟩)

abbrev q_J0_init_2 (D : va_G) (k : KK) (a : Nat) (A : Nat → Prop) : Array Value → State → Outcome → State → Prop := va_Qv (fun (u : Unit) => u = ()) (bx D (fun u => [(a, .inr (2, [.null, .null, .null, .null, .null, .int 0, .int 0, .int 0]))]) A) A
abbrev rm_J0_init_2 : Room := { frames := 1, cells := 0, slots := 0, locals := 40 }
theorem xo_J0_init_2 : xok yJ0_init_2 4 := by unfold xok; decide +kernel
set_option maxHeartbeats 8000000 in
theorem m_J0_init_2 (l : Launch) (D : va_G) (k : KK) (sz : Nat) (a : Nat) (hz : cz k) : Met l yJ0_init_2 (ws_ yJ0_init_2 cJ0_init_2 5 none) rm_J0_init_2 (pcx D k [.ref a, .null, .null, .int 0, .int 0] sz [(a, .inr (2, [.null, .null, .null, .null, .null, .int 0, .int 0, .int 0]))] (fun H => oldY k (va_A [(a, .inr (2, [.null, .null, .null, .null, .null, .int 0, .int 0, .int 0]))] sz) H)) (q_J0_init_2 D k a (va_A [(a, .inr (2, [.null, .null, .null, .null, .null, .int 0, .int 0, .int 0]))] sz)) 0 0 (va_A [(a, .inr (2, [.null, .null, .null, .null, .null, .int 0, .int 0, .int 0]))] sz) := by
  refine Met.start (Qc := q_J0_init_2 D k a) (by decide) (Nat.le_of_ble_eq_true rfl) ?_
  intro p e s m below meth c A hx hb hr hlocks hml hown hin hts hg hP hD hA hAn hS hY hsz ls hl
  have hown : s.vm.findClass RJ0 = some m.cls := hown
  have hl : lv_has ls 5 [(0, .ref a), (1, .null), (2, .null), (3, .int 0), (4, .int 0)] := hl
  have hO := oldY.mono hY hAn
  refine lv_aload_n hx hb dJ0_init_2_0 rfl (lv_at hl 0 rfl) ?_
  refine W.objInit hx hb hown (hts _ q146) (hts _ q113) (hts _ q114) rfl (by rw [hml]; exact hl.1) rfl dJ0_init_2_1 (Nat.le_of_ble_eq_true rfl) (Nat.le_of_ble_eq_true rfl) ?_
  refine W.eq (g2 := F0 m 4 ls []) rfl ?_
  refine lv_aload_n hx hb dJ0_init_2_4 rfl (lv_at hl 0 rfl) ?_
  refine lv_aload_n hx hb dJ0_init_2_5 rfl (lv_at hl 0 rfl) ?_
  refine va_put (D := D) (ci := 2) (v := .ref a) (C := RX3) (T := TX3) (N := 8) hx hb hts in_X3 tyX3 tyX3_ok nmX3 hown hg.1 hP hD hS 0 rfl rfl 0 (Nat.le_of_ble_eq_true rfl) (hts _ q179) (fun _ h9 => h9) rfl ftX3_0 rfl rfl (Nat.le_of_ble_eq_true rfl) dJ0_init_2_6 (fun H locs hP hD hS => ?_)
  replace hP : va_P D vwCl [(a, .inr (2, [.ref a, .null, .null, .null, .null, .int 0, .int 0, .int 0]))] H := hP
  replace hD : va_D A [(a, .inr (2, [.ref a, .null, .null, .null, .null, .int 0, .int 0, .int 0]))] := hD
  refine lv_aload_n hx hb dJ0_init_2_9 rfl (lv_at hl 0 rfl) ?_
  refine va_Zq.two (va_Zq.old hz.2.2.2.2.2.2.2 hg hO) (fun ht1 => ?_) (fun t1 ht1 => ?_)
  · refine va_gets hx hb ht1 hS hown (hts _ q147) (fun _ h9 => h9) dJ0_init_2_10 ?_
    refine va_put (D := D) (ci := 2) (v := .null) (C := RX3) (T := TX3) (N := 8) hx hb hts in_X3 tyX3 tyX3_ok nmX3 hown hg.1 hP hD hS 0 rfl rfl 1 (Nat.le_of_ble_eq_true rfl) (hts _ q180) (fun _ h9 => h9) rfl ftX3_1 rfl rfl (Nat.le_of_ble_eq_true rfl) dJ0_init_2_13 (fun H locs hP hD hS => ?_)
    replace hP : va_P D vwCl [(a, .inr (2, [.ref a, .null, .null, .null, .null, .int 0, .int 0, .int 0]))] H := hP
    replace hD : va_D A [(a, .inr (2, [.ref a, .null, .null, .null, .null, .int 0, .int 0, .int 0]))] := hD
    refine lv_aload_n hx hb dJ0_init_2_16 rfl (lv_at hl 0 rfl) ?_
    refine va_Zq.two (va_Zq.old hz.2.2.2.2.2.2.1 hg hO) (fun ht2 => ?_) (fun t2 ht2 => ?_)
    · refine va_gets hx hb ht2 hS hown (hts _ q149) (fun _ h9 => h9) dJ0_init_2_17 ?_
      refine va_put (D := D) (ci := 2) (v := .null) (C := RX3) (T := TX3) (N := 8) hx hb hts in_X3 tyX3 tyX3_ok nmX3 hown hg.1 hP hD hS 0 rfl rfl 2 (Nat.le_of_ble_eq_true rfl) (hts _ q181) (fun _ h9 => h9) rfl ftX3_2 rfl rfl (Nat.le_of_ble_eq_true rfl) dJ0_init_2_20 (fun H locs hP hD hS => ?_)
      replace hP : va_P D vwCl [(a, .inr (2, [.ref a, .null, .null, .null, .null, .int 0, .int 0, .int 0]))] H := hP
      replace hD : va_D A [(a, .inr (2, [.ref a, .null, .null, .null, .null, .int 0, .int 0, .int 0]))] := hD
      refine lv_iload hx hb dJ0_init_2_23 (lv_at hl 4 rfl) ?_
      refine lv_if_eq (tgt := 36) hx hb dJ0_init_2_25 (by decide) (fun _ => ?_) (fun c => absurd (by decide) c)
      refine lv_aload_n hx hb dJ0_init_2_36 rfl (lv_at hl 0 rfl) ?_
      refine lv_null hx hb dJ0_init_2_37 ?_
      refine va_put (D := D) (ci := 2) (v := .null) (C := RX3) (T := TX3) (N := 8) hx hb hts in_X3 tyX3 tyX3_ok nmX3 hown hg.1 hP hD hS 0 rfl rfl 1 (Nat.le_of_ble_eq_true rfl) (hts _ q180) (fun _ h9 => h9) rfl ftX3_1 rfl rfl (Nat.le_of_ble_eq_true rfl) dJ0_init_2_38 (fun H locs hP hD hS => ?_)
      replace hP : va_P D vwCl [(a, .inr (2, [.ref a, .null, .null, .null, .null, .int 0, .int 0, .int 0]))] H := hP
      replace hD : va_D A [(a, .inr (2, [.ref a, .null, .null, .null, .null, .int 0, .int 0, .int 0]))] := hD
      refine lv_aload_n hx hb dJ0_init_2_41 rfl (lv_at hl 0 rfl) ?_
      refine lv_aload_nN hx hb dJ0_init_2_42 rfl (lv_at hl 1 rfl) ?_
      refine va_put (D := D) (ci := 2) (v := .null) (C := RX3) (T := TX3) (N := 8) hx hb hts in_X3 tyX3 tyX3_ok nmX3 hown hg.1 hP hD hS 0 rfl rfl 3 (Nat.le_of_ble_eq_true rfl) (hts _ q178) (fun _ h9 => h9) rfl ftX3_3 rfl rfl (Nat.le_of_ble_eq_true rfl) dJ0_init_2_43 (fun H locs hP hD hS => ?_)
      replace hP : va_P D vwCl [(a, .inr (2, [.ref a, .null, .null, .null, .null, .int 0, .int 0, .int 0]))] H := hP
      replace hD : va_D A [(a, .inr (2, [.ref a, .null, .null, .null, .null, .int 0, .int 0, .int 0]))] := hD
      refine lv_aload_n hx hb dJ0_init_2_46 rfl (lv_at hl 0 rfl) ?_
      refine lv_aload_nN hx hb dJ0_init_2_47 rfl (lv_at hl 2 rfl) ?_
      refine va_put (D := D) (ci := 2) (v := .null) (C := RX3) (T := TX3) (N := 8) hx hb hts in_X3 tyX3 tyX3_ok nmX3 hown hg.1 hP hD hS 0 rfl rfl 0 (Nat.le_of_ble_eq_true rfl) (hts _ q179) (fun _ h9 => h9) rfl ftX3_0 rfl rfl (Nat.le_of_ble_eq_true rfl) dJ0_init_2_48 (fun H locs hP hD hS => ?_)
      replace hP : va_P D vwCl [(a, .inr (2, [.null, .null, .null, .null, .null, .int 0, .int 0, .int 0]))] H := hP
      replace hD : va_D A [(a, .inr (2, [.null, .null, .null, .null, .null, .int 0, .int 0, .int 0]))] := hD
      refine lv_iload_n hx hb dJ0_init_2_51 rfl (lv_at hl 3 rfl) ?_
      refine lv_if_ne (tgt := 60) hx hb dJ0_init_2_52 (by decide) (fun c => absurd (by decide) c) (fun _ => ?_)
      refine lv_aload_n hx hb dJ0_init_2_55 rfl (lv_at hl 0 rfl) ?_
      refine lv_null hx hb dJ0_init_2_56 ?_
      refine va_put (D := D) (ci := 2) (v := .null) (C := RX3) (T := TX3) (N := 8) hx hb hts in_X3 tyX3 tyX3_ok nmX3 hown hg.1 hP hD hS 0 rfl rfl 2 (Nat.le_of_ble_eq_true rfl) (hts _ q181) (fun _ h9 => h9) rfl ftX3_2 rfl rfl (Nat.le_of_ble_eq_true rfl) dJ0_init_2_57 (fun H locs hP hD hS => ?_)
      replace hP : va_P D vwCl [(a, .inr (2, [.null, .null, .null, .null, .null, .int 0, .int 0, .int 0]))] H := hP
      replace hD : va_D A [(a, .inr (2, [.null, .null, .null, .null, .null, .int 0, .int 0, .int 0]))] := hD
      exact xret_v hx hb hr hlocks (Nat.le_of_ble_eq_true rfl) (Nat.le_of_ble_eq_true rfl) hS.2.2 dJ0_init_2_60 (fun t ht => ⟨⟨(), rfl, rfl, by rw [ht]; exact hP, hD⟩, hS.F ht⟩)
    · refine va_gets hx hb ht2 hS hown (hts _ q149) (fun _ h9 => h9) dJ0_init_2_17 ?_
      refine va_put (D := D) (ci := 2) (v := .ref t2) (C := RX3) (T := TX3) (N := 8) hx hb hts in_X3 tyX3 tyX3_ok nmX3 hown hg.1 hP hD hS 0 rfl rfl 2 (Nat.le_of_ble_eq_true rfl) (hts _ q181) (fun _ h9 => h9) rfl ftX3_2 rfl rfl (Nat.le_of_ble_eq_true rfl) dJ0_init_2_20 (fun H locs hP hD hS => ?_)
      replace hP : va_P D vwCl [(a, .inr (2, [.ref a, .null, .ref t2, .null, .null, .int 0, .int 0, .int 0]))] H := hP
      replace hD : va_D A [(a, .inr (2, [.ref a, .null, .ref t2, .null, .null, .int 0, .int 0, .int 0]))] := hD
      refine lv_iload hx hb dJ0_init_2_23 (lv_at hl 4 rfl) ?_
      refine lv_if_eq (tgt := 36) hx hb dJ0_init_2_25 (by decide) (fun _ => ?_) (fun c => absurd (by decide) c)
      refine lv_aload_n hx hb dJ0_init_2_36 rfl (lv_at hl 0 rfl) ?_
      refine lv_null hx hb dJ0_init_2_37 ?_
      refine va_put (D := D) (ci := 2) (v := .null) (C := RX3) (T := TX3) (N := 8) hx hb hts in_X3 tyX3 tyX3_ok nmX3 hown hg.1 hP hD hS 0 rfl rfl 1 (Nat.le_of_ble_eq_true rfl) (hts _ q180) (fun _ h9 => h9) rfl ftX3_1 rfl rfl (Nat.le_of_ble_eq_true rfl) dJ0_init_2_38 (fun H locs hP hD hS => ?_)
      replace hP : va_P D vwCl [(a, .inr (2, [.ref a, .null, .ref t2, .null, .null, .int 0, .int 0, .int 0]))] H := hP
      replace hD : va_D A [(a, .inr (2, [.ref a, .null, .ref t2, .null, .null, .int 0, .int 0, .int 0]))] := hD
      refine lv_aload_n hx hb dJ0_init_2_41 rfl (lv_at hl 0 rfl) ?_
      refine lv_aload_nN hx hb dJ0_init_2_42 rfl (lv_at hl 1 rfl) ?_
      refine va_put (D := D) (ci := 2) (v := .null) (C := RX3) (T := TX3) (N := 8) hx hb hts in_X3 tyX3 tyX3_ok nmX3 hown hg.1 hP hD hS 0 rfl rfl 3 (Nat.le_of_ble_eq_true rfl) (hts _ q178) (fun _ h9 => h9) rfl ftX3_3 rfl rfl (Nat.le_of_ble_eq_true rfl) dJ0_init_2_43 (fun H locs hP hD hS => ?_)
      replace hP : va_P D vwCl [(a, .inr (2, [.ref a, .null, .ref t2, .null, .null, .int 0, .int 0, .int 0]))] H := hP
      replace hD : va_D A [(a, .inr (2, [.ref a, .null, .ref t2, .null, .null, .int 0, .int 0, .int 0]))] := hD
      refine lv_aload_n hx hb dJ0_init_2_46 rfl (lv_at hl 0 rfl) ?_
      refine lv_aload_nN hx hb dJ0_init_2_47 rfl (lv_at hl 2 rfl) ?_
      refine va_put (D := D) (ci := 2) (v := .null) (C := RX3) (T := TX3) (N := 8) hx hb hts in_X3 tyX3 tyX3_ok nmX3 hown hg.1 hP hD hS 0 rfl rfl 0 (Nat.le_of_ble_eq_true rfl) (hts _ q179) (fun _ h9 => h9) rfl ftX3_0 rfl rfl (Nat.le_of_ble_eq_true rfl) dJ0_init_2_48 (fun H locs hP hD hS => ?_)
      replace hP : va_P D vwCl [(a, .inr (2, [.null, .null, .ref t2, .null, .null, .int 0, .int 0, .int 0]))] H := hP
      replace hD : va_D A [(a, .inr (2, [.null, .null, .ref t2, .null, .null, .int 0, .int 0, .int 0]))] := hD
      refine lv_iload_n hx hb dJ0_init_2_51 rfl (lv_at hl 3 rfl) ?_
      refine lv_if_ne (tgt := 60) hx hb dJ0_init_2_52 (by decide) (fun c => absurd (by decide) c) (fun _ => ?_)
      refine lv_aload_n hx hb dJ0_init_2_55 rfl (lv_at hl 0 rfl) ?_
      refine lv_null hx hb dJ0_init_2_56 ?_
      refine va_put (D := D) (ci := 2) (v := .null) (C := RX3) (T := TX3) (N := 8) hx hb hts in_X3 tyX3 tyX3_ok nmX3 hown hg.1 hP hD hS 0 rfl rfl 2 (Nat.le_of_ble_eq_true rfl) (hts _ q181) (fun _ h9 => h9) rfl ftX3_2 rfl rfl (Nat.le_of_ble_eq_true rfl) dJ0_init_2_57 (fun H locs hP hD hS => ?_)
      replace hP : va_P D vwCl [(a, .inr (2, [.null, .null, .null, .null, .null, .int 0, .int 0, .int 0]))] H := hP
      replace hD : va_D A [(a, .inr (2, [.null, .null, .null, .null, .null, .int 0, .int 0, .int 0]))] := hD
      exact xret_v hx hb hr hlocks (Nat.le_of_ble_eq_true rfl) (Nat.le_of_ble_eq_true rfl) hS.2.2 dJ0_init_2_60 (fun t ht => ⟨⟨(), rfl, rfl, by rw [ht]; exact hP, hD⟩, hS.F ht⟩)
  · refine va_gets hx hb ht1 hS hown (hts _ q147) (fun _ h9 => h9) dJ0_init_2_10 ?_
    refine va_put (D := D) (ci := 2) (v := .ref t1) (C := RX3) (T := TX3) (N := 8) hx hb hts in_X3 tyX3 tyX3_ok nmX3 hown hg.1 hP hD hS 0 rfl rfl 1 (Nat.le_of_ble_eq_true rfl) (hts _ q180) (fun _ h9 => h9) rfl ftX3_1 rfl rfl (Nat.le_of_ble_eq_true rfl) dJ0_init_2_13 (fun H locs hP hD hS => ?_)
    replace hP : va_P D vwCl [(a, .inr (2, [.ref a, .ref t1, .null, .null, .null, .int 0, .int 0, .int 0]))] H := hP
    replace hD : va_D A [(a, .inr (2, [.ref a, .ref t1, .null, .null, .null, .int 0, .int 0, .int 0]))] := hD
    refine lv_aload_n hx hb dJ0_init_2_16 rfl (lv_at hl 0 rfl) ?_
    refine va_Zq.two (va_Zq.old hz.2.2.2.2.2.2.1 hg hO) (fun ht3 => ?_) (fun t3 ht3 => ?_)
    · refine va_gets hx hb ht3 hS hown (hts _ q149) (fun _ h9 => h9) dJ0_init_2_17 ?_
      refine va_put (D := D) (ci := 2) (v := .null) (C := RX3) (T := TX3) (N := 8) hx hb hts in_X3 tyX3 tyX3_ok nmX3 hown hg.1 hP hD hS 0 rfl rfl 2 (Nat.le_of_ble_eq_true rfl) (hts _ q181) (fun _ h9 => h9) rfl ftX3_2 rfl rfl (Nat.le_of_ble_eq_true rfl) dJ0_init_2_20 (fun H locs hP hD hS => ?_)
      replace hP : va_P D vwCl [(a, .inr (2, [.ref a, .ref t1, .null, .null, .null, .int 0, .int 0, .int 0]))] H := hP
      replace hD : va_D A [(a, .inr (2, [.ref a, .ref t1, .null, .null, .null, .int 0, .int 0, .int 0]))] := hD
      refine lv_iload hx hb dJ0_init_2_23 (lv_at hl 4 rfl) ?_
      refine lv_if_eq (tgt := 36) hx hb dJ0_init_2_25 (by decide) (fun _ => ?_) (fun c => absurd (by decide) c)
      refine lv_aload_n hx hb dJ0_init_2_36 rfl (lv_at hl 0 rfl) ?_
      refine lv_null hx hb dJ0_init_2_37 ?_
      refine va_put (D := D) (ci := 2) (v := .null) (C := RX3) (T := TX3) (N := 8) hx hb hts in_X3 tyX3 tyX3_ok nmX3 hown hg.1 hP hD hS 0 rfl rfl 1 (Nat.le_of_ble_eq_true rfl) (hts _ q180) (fun _ h9 => h9) rfl ftX3_1 rfl rfl (Nat.le_of_ble_eq_true rfl) dJ0_init_2_38 (fun H locs hP hD hS => ?_)
      replace hP : va_P D vwCl [(a, .inr (2, [.ref a, .null, .null, .null, .null, .int 0, .int 0, .int 0]))] H := hP
      replace hD : va_D A [(a, .inr (2, [.ref a, .null, .null, .null, .null, .int 0, .int 0, .int 0]))] := hD
      refine lv_aload_n hx hb dJ0_init_2_41 rfl (lv_at hl 0 rfl) ?_
      refine lv_aload_nN hx hb dJ0_init_2_42 rfl (lv_at hl 1 rfl) ?_
      refine va_put (D := D) (ci := 2) (v := .null) (C := RX3) (T := TX3) (N := 8) hx hb hts in_X3 tyX3 tyX3_ok nmX3 hown hg.1 hP hD hS 0 rfl rfl 3 (Nat.le_of_ble_eq_true rfl) (hts _ q178) (fun _ h9 => h9) rfl ftX3_3 rfl rfl (Nat.le_of_ble_eq_true rfl) dJ0_init_2_43 (fun H locs hP hD hS => ?_)
      replace hP : va_P D vwCl [(a, .inr (2, [.ref a, .null, .null, .null, .null, .int 0, .int 0, .int 0]))] H := hP
      replace hD : va_D A [(a, .inr (2, [.ref a, .null, .null, .null, .null, .int 0, .int 0, .int 0]))] := hD
      refine lv_aload_n hx hb dJ0_init_2_46 rfl (lv_at hl 0 rfl) ?_
      refine lv_aload_nN hx hb dJ0_init_2_47 rfl (lv_at hl 2 rfl) ?_
      refine va_put (D := D) (ci := 2) (v := .null) (C := RX3) (T := TX3) (N := 8) hx hb hts in_X3 tyX3 tyX3_ok nmX3 hown hg.1 hP hD hS 0 rfl rfl 0 (Nat.le_of_ble_eq_true rfl) (hts _ q179) (fun _ h9 => h9) rfl ftX3_0 rfl rfl (Nat.le_of_ble_eq_true rfl) dJ0_init_2_48 (fun H locs hP hD hS => ?_)
      replace hP : va_P D vwCl [(a, .inr (2, [.null, .null, .null, .null, .null, .int 0, .int 0, .int 0]))] H := hP
      replace hD : va_D A [(a, .inr (2, [.null, .null, .null, .null, .null, .int 0, .int 0, .int 0]))] := hD
      refine lv_iload_n hx hb dJ0_init_2_51 rfl (lv_at hl 3 rfl) ?_
      refine lv_if_ne (tgt := 60) hx hb dJ0_init_2_52 (by decide) (fun c => absurd (by decide) c) (fun _ => ?_)
      refine lv_aload_n hx hb dJ0_init_2_55 rfl (lv_at hl 0 rfl) ?_
      refine lv_null hx hb dJ0_init_2_56 ?_
      refine va_put (D := D) (ci := 2) (v := .null) (C := RX3) (T := TX3) (N := 8) hx hb hts in_X3 tyX3 tyX3_ok nmX3 hown hg.1 hP hD hS 0 rfl rfl 2 (Nat.le_of_ble_eq_true rfl) (hts _ q181) (fun _ h9 => h9) rfl ftX3_2 rfl rfl (Nat.le_of_ble_eq_true rfl) dJ0_init_2_57 (fun H locs hP hD hS => ?_)
      replace hP : va_P D vwCl [(a, .inr (2, [.null, .null, .null, .null, .null, .int 0, .int 0, .int 0]))] H := hP
      replace hD : va_D A [(a, .inr (2, [.null, .null, .null, .null, .null, .int 0, .int 0, .int 0]))] := hD
      exact xret_v hx hb hr hlocks (Nat.le_of_ble_eq_true rfl) (Nat.le_of_ble_eq_true rfl) hS.2.2 dJ0_init_2_60 (fun t ht => ⟨⟨(), rfl, rfl, by rw [ht]; exact hP, hD⟩, hS.F ht⟩)
    · refine va_gets hx hb ht3 hS hown (hts _ q149) (fun _ h9 => h9) dJ0_init_2_17 ?_
      refine va_put (D := D) (ci := 2) (v := .ref t3) (C := RX3) (T := TX3) (N := 8) hx hb hts in_X3 tyX3 tyX3_ok nmX3 hown hg.1 hP hD hS 0 rfl rfl 2 (Nat.le_of_ble_eq_true rfl) (hts _ q181) (fun _ h9 => h9) rfl ftX3_2 rfl rfl (Nat.le_of_ble_eq_true rfl) dJ0_init_2_20 (fun H locs hP hD hS => ?_)
      replace hP : va_P D vwCl [(a, .inr (2, [.ref a, .ref t1, .ref t3, .null, .null, .int 0, .int 0, .int 0]))] H := hP
      replace hD : va_D A [(a, .inr (2, [.ref a, .ref t1, .ref t3, .null, .null, .int 0, .int 0, .int 0]))] := hD
      refine lv_iload hx hb dJ0_init_2_23 (lv_at hl 4 rfl) ?_
      refine lv_if_eq (tgt := 36) hx hb dJ0_init_2_25 (by decide) (fun _ => ?_) (fun c => absurd (by decide) c)
      refine lv_aload_n hx hb dJ0_init_2_36 rfl (lv_at hl 0 rfl) ?_
      refine lv_null hx hb dJ0_init_2_37 ?_
      refine va_put (D := D) (ci := 2) (v := .null) (C := RX3) (T := TX3) (N := 8) hx hb hts in_X3 tyX3 tyX3_ok nmX3 hown hg.1 hP hD hS 0 rfl rfl 1 (Nat.le_of_ble_eq_true rfl) (hts _ q180) (fun _ h9 => h9) rfl ftX3_1 rfl rfl (Nat.le_of_ble_eq_true rfl) dJ0_init_2_38 (fun H locs hP hD hS => ?_)
      replace hP : va_P D vwCl [(a, .inr (2, [.ref a, .null, .ref t3, .null, .null, .int 0, .int 0, .int 0]))] H := hP
      replace hD : va_D A [(a, .inr (2, [.ref a, .null, .ref t3, .null, .null, .int 0, .int 0, .int 0]))] := hD
      refine lv_aload_n hx hb dJ0_init_2_41 rfl (lv_at hl 0 rfl) ?_
      refine lv_aload_nN hx hb dJ0_init_2_42 rfl (lv_at hl 1 rfl) ?_
      refine va_put (D := D) (ci := 2) (v := .null) (C := RX3) (T := TX3) (N := 8) hx hb hts in_X3 tyX3 tyX3_ok nmX3 hown hg.1 hP hD hS 0 rfl rfl 3 (Nat.le_of_ble_eq_true rfl) (hts _ q178) (fun _ h9 => h9) rfl ftX3_3 rfl rfl (Nat.le_of_ble_eq_true rfl) dJ0_init_2_43 (fun H locs hP hD hS => ?_)
      replace hP : va_P D vwCl [(a, .inr (2, [.ref a, .null, .ref t3, .null, .null, .int 0, .int 0, .int 0]))] H := hP
      replace hD : va_D A [(a, .inr (2, [.ref a, .null, .ref t3, .null, .null, .int 0, .int 0, .int 0]))] := hD
      refine lv_aload_n hx hb dJ0_init_2_46 rfl (lv_at hl 0 rfl) ?_
      refine lv_aload_nN hx hb dJ0_init_2_47 rfl (lv_at hl 2 rfl) ?_
      refine va_put (D := D) (ci := 2) (v := .null) (C := RX3) (T := TX3) (N := 8) hx hb hts in_X3 tyX3 tyX3_ok nmX3 hown hg.1 hP hD hS 0 rfl rfl 0 (Nat.le_of_ble_eq_true rfl) (hts _ q179) (fun _ h9 => h9) rfl ftX3_0 rfl rfl (Nat.le_of_ble_eq_true rfl) dJ0_init_2_48 (fun H locs hP hD hS => ?_)
      replace hP : va_P D vwCl [(a, .inr (2, [.null, .null, .ref t3, .null, .null, .int 0, .int 0, .int 0]))] H := hP
      replace hD : va_D A [(a, .inr (2, [.null, .null, .ref t3, .null, .null, .int 0, .int 0, .int 0]))] := hD
      refine lv_iload_n hx hb dJ0_init_2_51 rfl (lv_at hl 3 rfl) ?_
      refine lv_if_ne (tgt := 60) hx hb dJ0_init_2_52 (by decide) (fun c => absurd (by decide) c) (fun _ => ?_)
      refine lv_aload_n hx hb dJ0_init_2_55 rfl (lv_at hl 0 rfl) ?_
      refine lv_null hx hb dJ0_init_2_56 ?_
      refine va_put (D := D) (ci := 2) (v := .null) (C := RX3) (T := TX3) (N := 8) hx hb hts in_X3 tyX3 tyX3_ok nmX3 hown hg.1 hP hD hS 0 rfl rfl 2 (Nat.le_of_ble_eq_true rfl) (hts _ q181) (fun _ h9 => h9) rfl ftX3_2 rfl rfl (Nat.le_of_ble_eq_true rfl) dJ0_init_2_57 (fun H locs hP hD hS => ?_)
      replace hP : va_P D vwCl [(a, .inr (2, [.null, .null, .null, .null, .null, .int 0, .int 0, .int 0]))] H := hP
      replace hD : va_D A [(a, .inr (2, [.null, .null, .null, .null, .null, .int 0, .int 0, .int 0]))] := hD
      exact xret_v hx hb hr hlocks (Nat.le_of_ble_eq_true rfl) (Nat.le_of_ble_eq_true rfl) hS.2.2 dJ0_init_2_60 (fun t ht => ⟨⟨(), rfl, rfl, by rw [ht]; exact hP, hD⟩, hS.F ht⟩)

abbrev q_J1_init (D : va_G) (k : KK) (a : Nat) (A : Nat → Prop) : Array Value → State → Outcome → State → Prop := va_Qv (fun (u : Unit) => u = ()) (bx D (fun u => [(a, .inr (2, [.null, .null, .null, .null, .null, .int 0, .int 0, .int 0]))]) A) A
abbrev rm_J1_init : Room := { frames := 2, cells := 0, slots := 0, locals := 80 }
theorem xo_J1_init : xok yJ1_init 4 := by unfold xok; decide +kernel
set_option maxHeartbeats 8000000 in
theorem m_J1_init (l : Launch) (D : va_G) (k : KK) (sz : Nat) (a : Nat) (hz : cz k) : Met l yJ1_init (ws_ yJ1_init cJ1_init 5 none) rm_J1_init (pcx D k [.ref a, .null, .null, .int 0, .int 0] sz [(a, .inr (2, [.null, .null, .null, .null, .null, .int 0, .int 0, .int 0]))] (fun H => oldY k (va_A [(a, .inr (2, [.null, .null, .null, .null, .null, .int 0, .int 0, .int 0]))] sz) H)) (q_J1_init D k a (va_A [(a, .inr (2, [.null, .null, .null, .null, .null, .int 0, .int 0, .int 0]))] sz)) 0 0 (va_A [(a, .inr (2, [.null, .null, .null, .null, .null, .int 0, .int 0, .int 0]))] sz) := by
  refine Met.start (Qc := q_J1_init D k a) (by decide) (Nat.le_of_ble_eq_true rfl) ?_
  intro p e s m below meth c A hx hb hr hlocks hml hown hin hts hg hP hD hA hAn hS hY hsz ls hl
  have hown : s.vm.findClass RJ1 = some m.cls := hown
  have hl : lv_has ls 5 [(0, .ref a), (1, .null), (2, .null), (3, .int 0), (4, .int 0)] := hl
  have hO := oldY.mono hY hAn
  refine lv_aload_n hx hb dJ1_init_0 rfl (lv_at hl 0 rfl) ?_
  refine lv_aload_nN hx hb dJ1_init_1 rfl (lv_at hl 1 rfl) ?_
  refine lv_aload_nN hx hb dJ1_init_2 rfl (lv_at hl 2 rfl) ?_
  refine lv_iload_n hx hb dJ1_init_3 rfl (lv_at hl 3 rfl) ?_
  refine lv_iload hx hb dJ1_init_4 (lv_at hl 4 rfl) ?_
  refine xc_v (wc := [(a, .inr (2, [.null, .null, .null, .null, .null, .int 0, .int 0, .int 0]))]) (wr := []) hP hD hS hA [0] [] rfl rfl rfl (by decide) (xrI ⟨hx, hb, hml, hown, hts⟩ hg (m_J0_init_2 l D k _ a hz) hP hD [0] rfl rfl (oldY.call hO hS (va_free (wc := [(a, .inr (2, [.null, .null, .null, .null, .null, .int 0, .int 0, .int 0]))]) hD hS hA [0] rfl)) q170 q171 q85 q172 rfl xo_J0_init_2 ⟨rfl, rfl⟩ ⟨Nat.le_of_ble_eq_true rfl, Nat.le_of_ble_eq_true rfl⟩ hl.1 (Nat.le_of_ble_eq_true rfl) dJ1_init_6 ⟨Nat.le_of_ble_eq_true rfl, Nat.le_of_ble_eq_true rfl⟩ rfl) (fun u1 H locs hw hP hD hS hk => ?_)
  replace hP : va_P D vwCl [(a, .inr (2, [.null, .null, .null, .null, .null, .int 0, .int 0, .int 0]))] H := hP.sub [0] rfl
  replace hD : va_D A [(a, .inr (2, [.null, .null, .null, .null, .null, .int 0, .int 0, .int 0]))] := hD.sub [0] (by decide) rfl
  exact xret_v hx hb hr hlocks (Nat.le_of_ble_eq_true rfl) (Nat.le_of_ble_eq_true rfl) hS.2.2 dJ1_init_9 (fun t ht => ⟨⟨(), rfl, rfl, by rw [ht]; exact hP, hD⟩, hS.F ht⟩)

abbrev q_J2_init (D : va_G) (k : KK) (a : Nat) (A : Nat → Prop) : Array Value → State → Outcome → State → Prop := va_Qv (fun (u : Unit) => u = ()) (bx D (fun u => [(a, .inr (2, [.null, .null, .null, .null, .null, .int 0, .int 0, .int 0]))]) A) A
abbrev rm_J2_init : Room := { frames := 3, cells := 0, slots := 0, locals := 120 }
theorem xo_J2_init : xok yJ2_init 4 := by unfold xok; decide +kernel
set_option maxHeartbeats 8000000 in
theorem m_J2_init (l : Launch) (D : va_G) (k : KK) (sz : Nat) (a : Nat) (hz : cz k) : Met l yJ2_init (ws_ yJ2_init cJ2_init 5 none) rm_J2_init (pcx D k [.ref a, .null, .null, .int 0, .int 0] sz [(a, .inr (2, [.null, .null, .null, .null, .null, .int 0, .int 0, .int 0]))] (fun H => oldY k (va_A [(a, .inr (2, [.null, .null, .null, .null, .null, .int 0, .int 0, .int 0]))] sz) H)) (q_J2_init D k a (va_A [(a, .inr (2, [.null, .null, .null, .null, .null, .int 0, .int 0, .int 0]))] sz)) 0 0 (va_A [(a, .inr (2, [.null, .null, .null, .null, .null, .int 0, .int 0, .int 0]))] sz) := by
  refine Met.start (Qc := q_J2_init D k a) (by decide) (Nat.le_of_ble_eq_true rfl) ?_
  intro p e s m below meth c A hx hb hr hlocks hml hown hin hts hg hP hD hA hAn hS hY hsz ls hl
  have hown : s.vm.findClass RJ2 = some m.cls := hown
  have hl : lv_has ls 5 [(0, .ref a), (1, .null), (2, .null), (3, .int 0), (4, .int 0)] := hl
  have hO := oldY.mono hY hAn
  refine lv_aload_n hx hb dJ2_init_0 rfl (lv_at hl 0 rfl) ?_
  refine lv_aload_nN hx hb dJ2_init_1 rfl (lv_at hl 1 rfl) ?_
  refine lv_aload_nN hx hb dJ2_init_2 rfl (lv_at hl 2 rfl) ?_
  refine lv_iload_n hx hb dJ2_init_3 rfl (lv_at hl 3 rfl) ?_
  refine lv_iload hx hb dJ2_init_4 (lv_at hl 4 rfl) ?_
  refine xc_v (wc := [(a, .inr (2, [.null, .null, .null, .null, .null, .int 0, .int 0, .int 0]))]) (wr := []) hP hD hS hA [0] [] rfl rfl rfl (by decide) (xrI ⟨hx, hb, hml, hown, hts⟩ hg (m_J1_init l D k _ a hz) hP hD [0] rfl rfl (oldY.call hO hS (va_free (wc := [(a, .inr (2, [.null, .null, .null, .null, .null, .int 0, .int 0, .int 0]))]) hD hS hA [0] rfl)) q167 q168 q86 q169 rfl xo_J1_init ⟨rfl, rfl⟩ ⟨Nat.le_of_ble_eq_true rfl, Nat.le_of_ble_eq_true rfl⟩ hl.1 (Nat.le_of_ble_eq_true rfl) dJ2_init_6 ⟨Nat.le_of_ble_eq_true rfl, Nat.le_of_ble_eq_true rfl⟩ rfl) (fun u1 H locs hw hP hD hS hk => ?_)
  replace hP : va_P D vwCl [(a, .inr (2, [.null, .null, .null, .null, .null, .int 0, .int 0, .int 0]))] H := hP.sub [0] rfl
  replace hD : va_D A [(a, .inr (2, [.null, .null, .null, .null, .null, .int 0, .int 0, .int 0]))] := hD.sub [0] (by decide) rfl
  exact xret_v hx hb hr hlocks (Nat.le_of_ble_eq_true rfl) (Nat.le_of_ble_eq_true rfl) hS.2.2 dJ2_init_9 (fun t ht => ⟨⟨(), rfl, rfl, by rw [ht]; exact hP, hD⟩, hS.F ht⟩)

abbrev q_X3_init (D : va_G) (k : KK) (a : Nat) (A : Nat → Prop) : Array Value → State → Outcome → State → Prop := va_Qv (fun (u : Unit) => u = ()) (bx D (fun u => [(a, eRF .null .null .null .null .null (upd (fun _ => 0) 7 (-1)))]) A) A
abbrev rm_X3_init : Room := { frames := 4, cells := 0, slots := 0, locals := 160 }
theorem xo_X3_init : xok yX3_init 0 := by unfold xok; decide +kernel
set_option maxHeartbeats 8000000 in
theorem m_X3_init (l : Launch) (D : va_G) (k : KK) (sz : Nat) (a : Nat) (hz : cz k) : Met l yX3_init (ws_ yX3_init cX3_init 1 none) rm_X3_init (pcx D k [.ref a] sz [(a, .inr (2, [.null, .null, .null, .null, .null, .int 0, .int 0, .int 0]))] (fun H => oldY k (va_A [(a, .inr (2, [.null, .null, .null, .null, .null, .int 0, .int 0, .int 0]))] sz) H)) (q_X3_init D k a (va_A [(a, .inr (2, [.null, .null, .null, .null, .null, .int 0, .int 0, .int 0]))] sz)) 0 0 (va_A [(a, .inr (2, [.null, .null, .null, .null, .null, .int 0, .int 0, .int 0]))] sz) := by
  refine Met.start (Qc := q_X3_init D k a) (by decide) (Nat.le_of_ble_eq_true rfl) ?_
  intro p e s m below meth c A hx hb hr hlocks hml hown hin hts hg hP hD hA hAn hS hY hsz ls hl
  have hown : s.vm.findClass RX3 = some m.cls := hown
  have hl : lv_has ls 1 [(0, .ref a)] := hl
  have hO := oldY.mono hY hAn
  refine lv_aload_n hx hb dX3_init_0 rfl (lv_at hl 0 rfl) ?_
  refine lv_null hx hb dX3_init_1 ?_
  refine lv_null hx hb dX3_init_2 ?_
  refine lv_iconst (v := 0) hx hb dX3_init_3 ci_0 ?_
  refine lv_iconst (v := 0) hx hb dX3_init_4 ci_0 ?_
  refine xc_v (wc := [(a, .inr (2, [.null, .null, .null, .null, .null, .int 0, .int 0, .int 0]))]) (wr := []) hP hD hS hA [0] [] rfl rfl rfl (by decide) (xrI ⟨hx, hb, hml, hown, hts⟩ hg (m_J2_init l D k _ a hz) hP hD [0] rfl rfl (oldY.call hO hS (va_free (wc := [(a, .inr (2, [.null, .null, .null, .null, .null, .int 0, .int 0, .int 0]))]) hD hS hA [0] rfl)) q164 q165 q87 q166 rfl xo_J2_init ⟨rfl, rfl⟩ ⟨Nat.le_of_ble_eq_true rfl, Nat.le_of_ble_eq_true rfl⟩ hl.1 (Nat.le_of_ble_eq_true rfl) dX3_init_5 ⟨Nat.le_of_ble_eq_true rfl, Nat.le_of_ble_eq_true rfl⟩ rfl) (fun u1 H locs hw hP hD hS hk => ?_)
  replace hP : va_P D vwCl [(a, .inr (2, [.null, .null, .null, .null, .null, .int 0, .int 0, .int 0]))] H := hP.sub [0] rfl
  replace hD : va_D A [(a, .inr (2, [.null, .null, .null, .null, .null, .int 0, .int 0, .int 0]))] := hD.sub [0] (by decide) rfl
  refine lv_aload_n hx hb dX3_init_8 rfl (lv_at hl 0 rfl) ?_
  refine lv_iconst (v := (-1)) hx hb dX3_init_9 ci_m1 ?_
  refine va_put (D := D) (ci := 2) (v := .int (-1)) (C := RX3) (T := TX3) (N := 8) hx hb hts in_X3 tyX3 tyX3_ok nmX3 hown hg.1 hP hD hS 0 rfl rfl 7 (Nat.le_of_ble_eq_true rfl) (hts _ q175) (fun _ h9 => h9) rfl ftX3_7 rfl rfl (Nat.le_of_ble_eq_true rfl) dX3_init_10 (fun H locs hP hD hS => ?_)
  replace hP : va_P D vwCl [(a, .inr (2, [.null, .null, .null, .null, .null, .int 0, .int 0, .int (-1)]))] H := hP
  replace hD : va_D A [(a, .inr (2, [.null, .null, .null, .null, .null, .int 0, .int 0, .int (-1)]))] := hD
  exact xret_v hx hb hr hlocks (Nat.le_of_ble_eq_true rfl) (Nat.le_of_ble_eq_true rfl) hS.2.2 dX3_init_13 (fun t ht => ⟨⟨(), rfl, rfl, by rw [ht]; exact hP, hD⟩, hS.F ht⟩)

def f_X3_at (a : Nat) (x : Int32) (y : Int32) : Option Nat × Int32 × Int32 :=
  (some a, x, y)
abbrev q_X3_at (D : va_G) (k : KK) (a : Nat) (e0 : Value) (e1 : Value) (e2 : Value) (e3 : Value) (e4 : Value) (I : Nat → Int32) (x : Int32) (y : Int32) (A : Nat → Prop) : Array Value → State → Outcome → State → Prop := va_Qq (fun (r_ : Option Nat) (u : Option Nat × Int32 × Int32) => r_ = u.1 ∧ u = f_X3_at a x y) (bx D (fun u => [(a, eRF e0 e1 e2 e3 e4 (upd (upd I 6 u.2.1) 7 u.2.2))]) A) A
abbrev rm_X3_at : Room := { frames := 1, cells := 0, slots := 0, locals := 40 }
theorem xo_X3_at : xok yX3_at 2 := by unfold xok; decide +kernel
set_option maxHeartbeats 8000000 in
theorem m_X3_at (l : Launch) (D : va_G) (k : KK) (sz : Nat) (a : Nat) (e0 : Value) (e1 : Value) (e2 : Value) (e3 : Value) (e4 : Value) (I : Nat → Int32) (x : Int32) (y : Int32)  : Met l yX3_at (ws_ yX3_at cX3_at 3 (some (.object "RoarMill$Refused"))) rm_X3_at (pcx D k [.ref a, .int x, .int y] sz [(a, eRF e0 e1 e2 e3 e4 I)] (fun _ => True)) (q_X3_at D k a e0 e1 e2 e3 e4 I x y (va_A [(a, eRF e0 e1 e2 e3 e4 I)] sz)) 0 0 (va_A [(a, eRF e0 e1 e2 e3 e4 I)] sz) := by
  refine Met.start (Qc := q_X3_at D k a e0 e1 e2 e3 e4 I x y) (by decide) (Nat.le_of_ble_eq_true rfl) ?_
  intro p e s m below meth c A hx hb hr hlocks hml hown hin hts hg hP hD hA hAn hS hY hsz ls hl
  have hown : s.vm.findClass RX3 = some m.cls := hown
  have hl : lv_has ls 3 [(0, .ref a), (1, .int x), (2, .int y)] := hl
  refine lv_aload_n hx hb dX3_at_0 rfl (lv_at hl 0 rfl) ?_
  refine lv_iload_n hx hb dX3_at_1 rfl (lv_at hl 1 rfl) ?_
  refine va_put (D := D) (ci := 2) (v := .int x) (C := RX3) (T := TX3) (N := 8) hx hb hts in_X3 tyX3 tyX3_ok nmX3 hown hg.1 hP hD hS 0 rfl rfl 6 (Nat.le_of_ble_eq_true rfl) (hts _ q173) (fun _ h9 => h9) rfl ftX3_6 rfl rfl (Nat.le_of_ble_eq_true rfl) dX3_at_2 (fun H locs hP hD hS => ?_)
  replace hP : va_P D vwCl [(a, eRF e0 e1 e2 e3 e4 (upd I 6 x))] H := hP
  replace hD : va_D A [(a, eRF e0 e1 e2 e3 e4 (upd I 6 x))] := hD
  refine lv_aload_n hx hb dX3_at_5 rfl (lv_at hl 0 rfl) ?_
  refine lv_iload_n hx hb dX3_at_6 rfl (lv_at hl 2 rfl) ?_
  refine va_put (D := D) (ci := 2) (v := .int y) (C := RX3) (T := TX3) (N := 8) hx hb hts in_X3 tyX3 tyX3_ok nmX3 hown hg.1 hP hD hS 0 rfl rfl 7 (Nat.le_of_ble_eq_true rfl) (hts _ q175) (fun _ h9 => h9) rfl ftX3_7 rfl rfl (Nat.le_of_ble_eq_true rfl) dX3_at_7 (fun H locs hP hD hS => ?_)
  replace hP : va_P D vwCl [(a, eRF e0 e1 e2 e3 e4 (upd (upd I 6 x) 7 y))] H := hP
  replace hD : va_D A [(a, eRF e0 e1 e2 e3 e4 (upd (upd I 6 x) 7 y))] := hD
  refine lv_aload_n hx hb dX3_at_10 rfl (lv_at hl 0 rfl) ?_
  exact xret_q hx hb hr hlocks (Nat.le_of_ble_eq_true rfl) (Nat.le_of_ble_eq_true rfl) hS.2.2 dX3_at_11 rfl (fun t ht => ⟨⟨(some a), (some a, x, y), rfl, ⟨rfl, rfl⟩, by rw [ht]; exact hP, hD⟩, hS.F ht⟩)
