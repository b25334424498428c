set_option maxRecDepth 100000
def f_X5_init  : Int32 × Int32 :=
  (1, 1)
abbrev q_X5_init (D : va_G) (k : KK) (se : Nat) (J : Nat → Int32) (A : Nat → Prop) : Array Value → State → Outcome → State → Prop := va_Qv (fun (u : Int32 × Int32) => u = f_X5_init) (bx D (fun u => [(se, eSE (upd (upd J 0 u.1) 1 u.2))]) A) A
abbrev rm_X5_init : Room := { frames := 1, cells := 0, slots := 0, locals := 40 }
theorem xo_X5_init : xok yX5_init 0 := by unfold xok; decide +kernel
set_option maxHeartbeats 8000000 in
theorem m_X5_init (l : Launch) (D : va_G) (k : KK) (sz : Nat) (se : Nat) (J : Nat → Int32)  : Met l yX5_init (ws_ yX5_init cX5_init 1 none) rm_X5_init (pcx D k [.ref se] sz [(se, eSE J)] (fun _ => True)) (q_X5_init D k se J (va_A [(se, eSE J)] sz)) 0 0 (va_A [(se, eSE J)] sz) := by
  refine Met.start (Qc := q_X5_init D k se J) (by decide) (Nat.le_of_ble_eq_true rfl) ?_
  intro p e s m below meth c A hx hb hr hlocks hml hown hin hts hg hP hD hA hAn hS hY hsz ls hl
  have hown : s.vm.findClass RX5 = some m.cls := hown
  have hl : lv_has ls 1 [(0, .ref se)] := hl
  refine lv_aload_n hx hb dX5_init_0 rfl (lv_at hl 0 rfl) ?_
  refine W.objInit hx hb hown (hts _ q312) (hts _ q113) (hts _ q114) rfl (by rw [hml]; exact hl.1) rfl dX5_init_1 (Nat.le_of_ble_eq_true rfl) (Nat.le_of_ble_eq_true rfl) ?_
  refine W.eq (g2 := F0 m 4 ls []) rfl ?_
  refine lv_aload_n hx hb dX5_init_4 rfl (lv_at hl 0 rfl) ?_
  refine lv_iconst (v := 1) hx hb dX5_init_5 ci_1 ?_
  refine va_put (D := D) (ci := 4) (v := .int 1) (C := RX5) (T := TX5) (N := 3) hx hb hts in_X5 tyX5 tyX5_ok nmX5 hown hg.1 hP hD hS 0 rfl rfl 0 (Nat.le_of_ble_eq_true rfl) (hts _ q313) (fun _ h9 => h9) rfl ftX5_0 rfl rfl (Nat.le_of_ble_eq_true rfl) dX5_init_6 (fun H locs hP hD hS => ?_)
  replace hP : va_P D vwCl [(se, eSE (upd J 0 1))] H := hP
  replace hD : va_D A [(se, eSE (upd J 0 1))] := hD
  refine lv_aload_n hx hb dX5_init_9 rfl (lv_at hl 0 rfl) ?_
  refine lv_iconst (v := 1) hx hb dX5_init_10 ci_1 ?_
  refine va_put (D := D) (ci := 4) (v := .int 1) (C := RX5) (T := TX5) (N := 3) hx hb hts in_X5 tyX5 tyX5_ok nmX5 hown hg.1 hP hD hS 0 rfl rfl 1 (Nat.le_of_ble_eq_true rfl) (hts _ q316) (fun _ h9 => h9) rfl ftX5_1 rfl rfl (Nat.le_of_ble_eq_true rfl) dX5_init_11 (fun H locs hP hD hS => ?_)
  replace hP : va_P D vwCl [(se, eSE (upd (upd J 0 1) 1 1))] H := hP
  replace hD : va_D A [(se, eSE (upd (upd J 0 1) 1 1))] := hD
  exact xret_v hx hb hr hlocks (Nat.le_of_ble_eq_true rfl) (Nat.le_of_ble_eq_true rfl) hS.2.2 dX5_init_14 (fun t ht => ⟨⟨(1, 1), rfl, rfl, by rw [ht]; exact hP, hD⟩, hS.F ht⟩)

def f_X5_first  : Int32 × Int32 × Int32 :=
  (1, 1, 0)
abbrev q_X5_first (D : va_G) (k : KK) (se : Nat) (J : Nat → Int32) (A : Nat → Prop) : Array Value → State → Outcome → State → Prop := va_Qv (fun (u : Int32 × Int32 × Int32) => u = f_X5_first) (bx D (fun u => [(se, eSE (upd (upd (upd J 0 u.1) 1 u.2.1) 2 u.2.2))]) A) A
abbrev rm_X5_first : Room := { frames := 1, cells := 0, slots := 0, locals := 40 }
theorem xo_X5_first : xok yX5_first 0 := by unfold xok; decide +kernel
set_option maxHeartbeats 8000000 in
theorem m_X5_first (l : Launch) (D : va_G) (k : KK) (sz : Nat) (se : Nat) (J : Nat → Int32)  : Met l yX5_first (ws_ yX5_first cX5_first 1 none) rm_X5_first (pcx D k [.ref se] sz [(se, eSE J)] (fun _ => True)) (q_X5_first D k se J (va_A [(se, eSE J)] sz)) 0 0 (va_A [(se, eSE J)] sz) := by
  refine Met.start (Qc := q_X5_first D k se J) (by decide) (Nat.le_of_ble_eq_true rfl) ?_
  intro p e s m below meth c A hx hb hr hlocks hml hown hin hts hg hP hD hA hAn hS hY hsz ls hl
  have hown : s.vm.findClass RX5 = some m.cls := hown
  have hl : lv_has ls 1 [(0, .ref se)] := hl
  refine lv_aload_n hx hb dX5_first_0 rfl (lv_at hl 0 rfl) ?_
  refine lv_iconst (v := 1) hx hb dX5_first_1 ci_1 ?_
  refine va_put (D := D) (ci := 4) (v := .int 1) (C := RX5) (T := TX5) (N := 3) hx hb hts in_X5 tyX5 tyX5_ok nmX5 hown hg.1 hP hD hS 0 rfl rfl 0 (Nat.le_of_ble_eq_true rfl) (hts _ q313) (fun _ h9 => h9) rfl ftX5_0 rfl rfl (Nat.le_of_ble_eq_true rfl) dX5_first_2 (fun H locs hP hD hS => ?_)
  replace hP : va_P D vwCl [(se, eSE (upd J 0 1))] H := hP
  replace hD : va_D A [(se, eSE (upd J 0 1))] := hD
  refine lv_aload_n hx hb dX5_first_5 rfl (lv_at hl 0 rfl) ?_
  refine lv_iconst (v := 1) hx hb dX5_first_6 ci_1 ?_
  refine va_put (D := D) (ci := 4) (v := .int 1) (C := RX5) (T := TX5) (N := 3) hx hb hts in_X5 tyX5 tyX5_ok nmX5 hown hg.1 hP hD hS 0 rfl rfl 1 (Nat.le_of_ble_eq_true rfl) (hts _ q316) (fun _ h9 => h9) rfl ftX5_1 rfl rfl (Nat.le_of_ble_eq_true rfl) dX5_first_7 (fun H locs hP hD hS => ?_)
  replace hP : va_P D vwCl [(se, eSE (upd (upd J 0 1) 1 1))] H := hP
  replace hD : va_D A [(se, eSE (upd (upd J 0 1) 1 1))] := hD
  refine lv_aload_n hx hb dX5_first_10 rfl (lv_at hl 0 rfl) ?_
  refine lv_iconst (v := 0) hx hb dX5_first_11 ci_0 ?_
  refine va_put (D := D) (ci := 4) (v := .int 0) (C := RX5) (T := TX5) (N := 3) hx hb hts in_X5 tyX5 tyX5_ok nmX5 hown hg.1 hP hD hS 0 rfl rfl 2 (Nat.le_of_ble_eq_true rfl) (hts _ q319) (fun _ h9 => h9) rfl ftX5_2 rfl rfl (Nat.le_of_ble_eq_true rfl) dX5_first_12 (fun H locs hP hD hS => ?_)
  replace hP : va_P D vwCl [(se, eSE (upd (upd (upd J 0 1) 1 1) 2 0))] H := hP
  replace hD : va_D A [(se, eSE (upd (upd (upd J 0 1) 1 1) 2 0))] := hD
  exact xret_v hx hb hr hlocks (Nat.le_of_ble_eq_true rfl) (Nat.le_of_ble_eq_true rfl) hS.2.2 dX5_first_15 (fun t ht => ⟨⟨(1, 1, 0), rfl, rfl, by rw [ht]; exact hP, hD⟩, hS.F ht⟩)

def f_X5_become (J2 : Nat → Int32) : Int32 × Int32 × Int32 :=
  let x1 := (J2 0)
  let x2 := (J2 1)
  let x3 := (J2 2)
  (x1, x2, x3)
abbrev q_X5_become (D : va_G) (k : KK) (se : Nat) (J : Nat → Int32) (s2 : Nat) (J2 : Nat → Int32) (A : Nat → Prop) : Array Value → State → Outcome → State → Prop := va_Qv (fun (u : Int32 × Int32 × Int32) => u = f_X5_become J2) (bx D (fun u => [(se, eSE (upd (upd (upd J 0 u.1) 1 u.2.1) 2 u.2.2)), (s2, eSE J2)]) A) A
abbrev rm_X5_become : Room := { frames := 1, cells := 0, slots := 0, locals := 40 }
theorem xo_X5_become : xok yX5_become 1 := by unfold xok; decide +kernel
set_option maxHeartbeats 8000000 in
theorem m_X5_become (l : Launch) (D : va_G) (k : KK) (sz : Nat) (se : Nat) (J : Nat → Int32) (s2 : Nat) (J2 : Nat → Int32)  : Met l yX5_become (ws_ yX5_become cX5_become 2 none) rm_X5_become (pcx D k [.ref se, .ref s2] sz [(se, eSE J), (s2, eSE J2)] (fun _ => True)) (q_X5_become D k se J s2 J2 (va_A [(se, eSE J), (s2, eSE J2)] sz)) 0 0 (va_A [(se, eSE J), (s2, eSE J2)] sz) := by
  refine Met.start (Qc := q_X5_become D k se J s2 J2) (by decide) (Nat.le_of_ble_eq_true rfl) ?_
  intro p e s m below meth c A hx hb hr hlocks hml hown hin hts hg hP hD hA hAn hS hY hsz ls hl
  have hown : s.vm.findClass RX5 = some m.cls := hown
  have hl : lv_has ls 2 [(0, .ref se), (1, .ref s2)] := hl
  refine lv_aload_n hx hb dX5_become_0 rfl (lv_at hl 0 rfl) ?_
  refine lv_aload_n hx hb dX5_become_1 rfl (lv_at hl 1 rfl) ?_
  refine va_get (D := D) (ci := 4) (v := .int (J2 0)) (C := RX5) (T := TX5) (N := 3) hx hb hts in_X5 hown hg.1 hP 1 rfl rfl 0 (Nat.le_of_ble_eq_true rfl) (hts _ q313) (fun _ h9 => h9) rfl dX5_become_2 ?_
  refine lv_topi (fun x1 ex1 => ?_)
  refine va_put (D := D) (ci := 4) (v := .int x1) (C := RX5) (T := TX5) (N := 3) hx hb hts in_X5 tyX5 tyX5_ok nmX5 hown hg.1 hP hD hS 0 rfl rfl 0 (Nat.le_of_ble_eq_true rfl) (hts _ q313) (fun _ h9 => h9) rfl ftX5_0 rfl rfl (Nat.le_of_ble_eq_true rfl) dX5_become_5 (fun H locs hP hD hS => ?_)
  replace hP : va_P D vwCl [(se, eSE (upd J 0 x1)), (s2, eSE J2)] H := hP
  replace hD : va_D A [(se, eSE (upd J 0 x1)), (s2, eSE J2)] := hD
  refine lv_aload_n hx hb dX5_become_8 rfl (lv_at hl 0 rfl) ?_
  refine lv_aload_n hx hb dX5_become_9 rfl (lv_at hl 1 rfl) ?_
  refine va_get (D := D) (ci := 4) (v := .int (J2 1)) (C := RX5) (T := TX5) (N := 3) hx hb hts in_X5 hown hg.1 hP 1 rfl rfl 1 (Nat.le_of_ble_eq_true rfl) (hts _ q316) (fun _ h9 => h9) rfl dX5_become_10 ?_
  refine lv_topi (fun x2 ex2 => ?_)
  refine va_put (D := D) (ci := 4) (v := .int x2) (C := RX5) (T := TX5) (N := 3) hx hb hts in_X5 tyX5 tyX5_ok nmX5 hown hg.1 hP hD hS 0 rfl rfl 1 (Nat.le_of_ble_eq_true rfl) (hts _ q316) (fun _ h9 => h9) rfl ftX5_1 rfl rfl (Nat.le_of_ble_eq_true rfl) dX5_become_13 (fun H locs hP hD hS => ?_)
  replace hP : va_P D vwCl [(se, eSE (upd (upd J 0 x1) 1 x2)), (s2, eSE J2)] H := hP
  replace hD : va_D A [(se, eSE (upd (upd J 0 x1) 1 x2)), (s2, eSE J2)] := hD
  refine lv_aload_n hx hb dX5_become_16 rfl (lv_at hl 0 rfl) ?_
  refine lv_aload_n hx hb dX5_become_17 rfl (lv_at hl 1 rfl) ?_
  refine va_get (D := D) (ci := 4) (v := .int (J2 2)) (C := RX5) (T := TX5) (N := 3) hx hb hts in_X5 hown hg.1 hP 1 rfl rfl 2 (Nat.le_of_ble_eq_true rfl) (hts _ q319) (fun _ h9 => h9) rfl dX5_become_18 ?_
  refine lv_topi (fun x3 ex3 => ?_)
  refine va_put (D := D) (ci := 4) (v := .int x3) (C := RX5) (T := TX5) (N := 3) hx hb hts in_X5 tyX5 tyX5_ok nmX5 hown hg.1 hP hD hS 0 rfl rfl 2 (Nat.le_of_ble_eq_true rfl) (hts _ q319) (fun _ h9 => h9) rfl ftX5_2 rfl rfl (Nat.le_of_ble_eq_true rfl) dX5_become_21 (fun H locs hP hD hS => ?_)
  replace hP : va_P D vwCl [(se, eSE (upd (upd (upd J 0 x1) 1 x2) 2 x3)), (s2, eSE J2)] H := hP
  replace hD : va_D A [(se, eSE (upd (upd (upd J 0 x1) 1 x2) 2 x3)), (s2, eSE J2)] := hD
  exact xret_v hx hb hr hlocks (Nat.le_of_ble_eq_true rfl) (Nat.le_of_ble_eq_true rfl) hS.2.2 dX5_become_24 (fun t ht => ⟨⟨(x1, x2, x3), rfl, (by subst ex3; subst ex2; subst ex1; exact rfl), by rw [ht]; exact hP, hD⟩, hS.F ht⟩)

def f_X4_clear_l2  (i1 : Nat) (X1 : (Nat → Int32) × (Nat → Int32) × (Nat → Int32) × (Nat → Int32)) : (Nat → Int32) × (Nat → Int32) × (Nat → Int32) × (Nat → Int32) :=
  let f14 := upd X1.1 i1 0
  let f15 := upd X1.2.1 i1 0
  let f16 := upd X1.2.2.1 i1 0
  let f17 := upd X1.2.2.2 i1 0
  (f14, f15, f16, f17)
def f_X4_clear (h0 : Nat → Int32) (h1 : Nat → Int32) (h2 : Nat → Int32) (h3 : Nat → Int32) : Int32 × Int32 × Int32 × Int32 × Int32 × Int32 × Int32 × Int32 × Int32 × Int32 × Int32 × Int32 × Int64 × Int32 × (Nat → Int32) × (Nat → Int32) × (Nat → Int32) × (Nat → Int32) :=
  let X1 := itN (f_X4_clear_l2) 5 (h0, h1, h2, h3)
  (0, 0, 0, 0, 0, 0, 0, 0, 0, 0, 0, 0, 0, 0, X1.1, X1.2.1, X1.2.2.1, X1.2.2.2)
abbrev q_X4_clear (D : va_G) (k : KK) (st : Nat) (sr : Nat → Nat) (I : Nat → Int32) (L : Nat → Int64) (h0 : Nat → Int32) (h1 : Nat → Int32) (h2 : Nat → Int32) (h3 : Nat → Int32) (A : Nat → Prop) : Array Value → State → Outcome → State → Prop := va_Qv (fun (u : Int32 × Int32 × Int32 × Int32 × Int32 × Int32 × Int32 × Int32 × Int32 × Int32 × Int32 × Int32 × Int64 × Int32 × (Nat → Int32) × (Nat → Int32) × (Nat → Int32) × (Nat → Int32)) => u = f_X4_clear h0 h1 h2 h3 ∧ (u.2.2.2.2.2.2.2.2.2.2.2.2.2.1 = 0 ∨ u.2.2.2.2.2.2.2.2.2.2.2.2.2.1 = 1)) (bx D (fun u => [(st, eST sr (upd (upd (upd (upd (upd (upd (upd (upd (upd (upd (upd (upd (upd I 4 u.1) 5 u.2.1) 6 u.2.2.1) 7 u.2.2.2.1) 8 u.2.2.2.2.1) 9 u.2.2.2.2.2.1) 10 u.2.2.2.2.2.2.1) 11 u.2.2.2.2.2.2.2.1) 12 u.2.2.2.2.2.2.2.2.1) 13 u.2.2.2.2.2.2.2.2.2.1) 14 u.2.2.2.2.2.2.2.2.2.2.1) 15 u.2.2.2.2.2.2.2.2.2.2.2.1) 17 u.2.2.2.2.2.2.2.2.2.2.2.2.2.1) (vp_updL L 16 u.2.2.2.2.2.2.2.2.2.2.2.2.1)), ((sr 0), aI k 5 u.2.2.2.2.2.2.2.2.2.2.2.2.2.2.1), ((sr 1), aI k 5 u.2.2.2.2.2.2.2.2.2.2.2.2.2.2.2.1), ((sr 2), aI k 5 u.2.2.2.2.2.2.2.2.2.2.2.2.2.2.2.2.1), ((sr 3), aI k 5 u.2.2.2.2.2.2.2.2.2.2.2.2.2.2.2.2.2)]) A) A
abbrev rm_X4_clear : Room := { frames := 1, cells := 0, slots := 0, locals := 40 }
theorem xo_X4_clear : xok yX4_clear 0 := by unfold xok; decide +kernel
set_option maxHeartbeats 8000000 in
theorem m_X4_clear (l : Launch) (D : va_G) (k : KK) (sz : Nat) (st : Nat) (sr : Nat → Nat) (I : Nat → Int32) (L : Nat → Int64) (h0 : Nat → Int32) (h1 : Nat → Int32) (h2 : Nat → Int32) (h3 : Nat → Int32)  : Met l yX4_clear (ws_ yX4_clear cX4_clear 2 none) rm_X4_clear (pcx D k [.ref st] sz [(st, eST sr I L), ((sr 0), aI k 5 h0), ((sr 1), aI k 5 h1), ((sr 2), aI k 5 h2), ((sr 3), aI k 5 h3)] (fun _ => True)) (q_X4_clear D k st sr I L h0 h1 h2 h3 (va_A [(st, eST sr I L), ((sr 0), aI k 5 h0), ((sr 1), aI k 5 h1), ((sr 2), aI k 5 h2), ((sr 3), aI k 5 h3)] sz)) 0 0 (va_A [(st, eST sr I L), ((sr 0), aI k 5 h0), ((sr 1), aI k 5 h1), ((sr 2), aI k 5 h2), ((sr 3), aI k 5 h3)] sz) := by
  refine Met.start (Qc := q_X4_clear D k st sr I L h0 h1 h2 h3) (by decide) (Nat.le_of_ble_eq_true rfl) ?_
  intro p e s m below meth c A hx hb hr hlocks hml hown hin hts hg hP hD hA hAn hS hY hsz ls hl
  have hown : s.vm.findClass RX4 = some m.cls := hown
  have hl : lv_has ls 2 [(0, .ref st)] := hl
  refine lv_iconst (v := 0) hx hb dX4_clear_0 ci_0 ?_
  refine lv_istore_n (lv' := [(1, .int 0), (0, .ref st)]) hx hb dX4_clear_1 rfl hl (Nat.le_of_ble_eq_true rfl) rfl (fun ls hl => ?_)
  have loop1 : ∀ (n1 i1 : Nat) (X1 : (Nat → Int32) × (Nat → Int32) × (Nat → Int32) × (Nat → Int32)) (H : Heap) (locs : List Loc) (ls : Array Slot), i1 + n1 = 5 → X1 = itN (f_X4_clear_l2) i1 (h0, h1, h2, h3) → va_P D vwCl [(st, eST sr I L), ((sr 0), aI k 5 X1.1), ((sr 1), aI k 5 X1.2.1), ((sr 2), aI k 5 X1.2.2.1), ((sr 3), aI k 5 X1.2.2.2)] H → va_D A [(st, eST sr I L), ((sr 0), aI k 5 X1.1), ((sr 1), aI k 5 X1.2.1), ((sr 2), aI k 5 X1.2.2.1), ((sr 3), aI k 5 X1.2.2.2)] → va_S A s.heap H locs → lv_has ls 2 [(1, .int (nI i1)), (0, .ref st)] → W p l e rm_X4_clear s m ([.ref st] : List Value).toArray below meth c H locs 0 0 (MQ below (q_X4_clear D k st sr I L h0 h1 h2 h3 A) ([.ref st] : List Value).toArray s 0 0 A) (F0 m 2 ls []) := by
    intro n1
    induction n1 with
    | zero =>
      intro i1 X1 H locs ls hn1 eX1 hP hD hS hl
      have hi1 : i1 = 5 := by omega
      rw [hi1] at eX1
      refine lv_iload_n hx hb dX4_clear_2 rfl (lv_at hl 0 rfl) ?_
      refine lv_iconst (v := 5) hx hb dX4_clear_3 ci_5 ?_
      refine lv_icmp_ge (tgt := 41) hx hb dX4_clear_4 (by decide) (fun _ => ?_) (fun c => absurd (xle_t xl_5 rfl (by omega) (by omega)) c)
      refine lv_aload_n hx hb dX4_clear_41 rfl (lv_at hl 1 rfl) ?_
      refine lv_iconst (v := 0) hx hb dX4_clear_42 ci_0 ?_
      refine va_put (D := D) (ci := 3) (v := .int 0) (C := RX4) (T := TX4) (N := 18) hx hb hts in_X4 tyX4 tyX4_ok nmX4 hown hg.1 hP hD hS 0 rfl rfl 4 (Nat.le_of_ble_eq_true rfl) (hts _ q241) (fun _ h9 => h9) rfl ftX4_4 rfl rfl (Nat.le_of_ble_eq_true rfl) dX4_clear_43 (fun H locs hP hD hS => ?_)
      replace hP : va_P D vwCl [(st, eST sr (upd I 4 0) L), ((sr 0), aI k 5 X1.1), ((sr 1), aI k 5 X1.2.1), ((sr 2), aI k 5 X1.2.2.1), ((sr 3), aI k 5 X1.2.2.2)] H := hP
      replace hD : va_D A [(st, eST sr (upd I 4 0) L), ((sr 0), aI k 5 X1.1), ((sr 1), aI k 5 X1.2.1), ((sr 2), aI k 5 X1.2.2.1), ((sr 3), aI k 5 X1.2.2.2)] := hD
      refine lv_aload_n hx hb dX4_clear_46 rfl (lv_at hl 1 rfl) ?_
      refine lv_iconst (v := 0) hx hb dX4_clear_47 ci_0 ?_
      refine va_put (D := D) (ci := 3) (v := .int 0) (C := RX4) (T := TX4) (N := 18) hx hb hts in_X4 tyX4 tyX4_ok nmX4 hown hg.1 hP hD hS 0 rfl rfl 5 (Nat.le_of_ble_eq_true rfl) (hts _ q243) (fun _ h9 => h9) rfl ftX4_5 rfl rfl (Nat.le_of_ble_eq_true rfl) dX4_clear_48 (fun H locs hP hD hS => ?_)
      replace hP : va_P D vwCl [(st, eST sr (upd (upd I 4 0) 5 0) L), ((sr 0), aI k 5 X1.1), ((sr 1), aI k 5 X1.2.1), ((sr 2), aI k 5 X1.2.2.1), ((sr 3), aI k 5 X1.2.2.2)] H := hP
      replace hD : va_D A [(st, eST sr (upd (upd I 4 0) 5 0) L), ((sr 0), aI k 5 X1.1), ((sr 1), aI k 5 X1.2.1), ((sr 2), aI k 5 X1.2.2.1), ((sr 3), aI k 5 X1.2.2.2)] := hD
      refine lv_aload_n hx hb dX4_clear_51 rfl (lv_at hl 1 rfl) ?_
      refine lv_iconst (v := 0) hx hb dX4_clear_52 ci_0 ?_
      refine va_put (D := D) (ci := 3) (v := .int 0) (C := RX4) (T := TX4) (N := 18) hx hb hts in_X4 tyX4 tyX4_ok nmX4 hown hg.1 hP hD hS 0 rfl rfl 6 (Nat.le_of_ble_eq_true rfl) (hts _ q245) (fun _ h9 => h9) rfl ftX4_6 rfl rfl (Nat.le_of_ble_eq_true rfl) dX4_clear_53 (fun H locs hP hD hS => ?_)
      replace hP : va_P D vwCl [(st, eST sr (upd (upd (upd I 4 0) 5 0) 6 0) L), ((sr 0), aI k 5 X1.1), ((sr 1), aI k 5 X1.2.1), ((sr 2), aI k 5 X1.2.2.1), ((sr 3), aI k 5 X1.2.2.2)] H := hP
      replace hD : va_D A [(st, eST sr (upd (upd (upd I 4 0) 5 0) 6 0) L), ((sr 0), aI k 5 X1.1), ((sr 1), aI k 5 X1.2.1), ((sr 2), aI k 5 X1.2.2.1), ((sr 3), aI k 5 X1.2.2.2)] := hD
      refine lv_aload_n hx hb dX4_clear_56 rfl (lv_at hl 1 rfl) ?_
      refine lv_iconst (v := 0) hx hb dX4_clear_57 ci_0 ?_
      refine va_put (D := D) (ci := 3) (v := .int 0) (C := RX4) (T := TX4) (N := 18) hx hb hts in_X4 tyX4 tyX4_ok nmX4 hown hg.1 hP hD hS 0 rfl rfl 7 (Nat.le_of_ble_eq_true rfl) (hts _ q247) (fun _ h9 => h9) rfl ftX4_7 rfl rfl (Nat.le_of_ble_eq_true rfl) dX4_clear_58 (fun H locs hP hD hS => ?_)
      replace hP : va_P D vwCl [(st, eST sr (upd (upd (upd (upd I 4 0) 5 0) 6 0) 7 0) L), ((sr 0), aI k 5 X1.1), ((sr 1), aI k 5 X1.2.1), ((sr 2), aI k 5 X1.2.2.1), ((sr 3), aI k 5 X1.2.2.2)] H := hP
      replace hD : va_D A [(st, eST sr (upd (upd (upd (upd I 4 0) 5 0) 6 0) 7 0) L), ((sr 0), aI k 5 X1.1), ((sr 1), aI k 5 X1.2.1), ((sr 2), aI k 5 X1.2.2.1), ((sr 3), aI k 5 X1.2.2.2)] := hD
      refine lv_aload_n hx hb dX4_clear_61 rfl (lv_at hl 1 rfl) ?_
      refine lv_iconst (v := 0) hx hb dX4_clear_62 ci_0 ?_
      refine va_put (D := D) (ci := 3) (v := .int 0) (C := RX4) (T := TX4) (N := 18) hx hb hts in_X4 tyX4 tyX4_ok nmX4 hown hg.1 hP hD hS 0 rfl rfl 8 (Nat.le_of_ble_eq_true rfl) (hts _ q249) (fun _ h9 => h9) rfl ftX4_8 rfl rfl (Nat.le_of_ble_eq_true rfl) dX4_clear_63 (fun H locs hP hD hS => ?_)
      replace hP : va_P D vwCl [(st, eST sr (upd (upd (upd (upd (upd I 4 0) 5 0) 6 0) 7 0) 8 0) L), ((sr 0), aI k 5 X1.1), ((sr 1), aI k 5 X1.2.1), ((sr 2), aI k 5 X1.2.2.1), ((sr 3), aI k 5 X1.2.2.2)] H := hP
      replace hD : va_D A [(st, eST sr (upd (upd (upd (upd (upd I 4 0) 5 0) 6 0) 7 0) 8 0) L), ((sr 0), aI k 5 X1.1), ((sr 1), aI k 5 X1.2.1), ((sr 2), aI k 5 X1.2.2.1), ((sr 3), aI k 5 X1.2.2.2)] := hD
      refine lv_aload_n hx hb dX4_clear_66 rfl (lv_at hl 1 rfl) ?_
      refine lv_iconst (v := 0) hx hb dX4_clear_67 ci_0 ?_
      refine va_put (D := D) (ci := 3) (v := .int 0) (C := RX4) (T := TX4) (N := 18) hx hb hts in_X4 tyX4 tyX4_ok nmX4 hown hg.1 hP hD hS 0 rfl rfl 9 (Nat.le_of_ble_eq_true rfl) (hts _ q251) (fun _ h9 => h9) rfl ftX4_9 rfl rfl (Nat.le_of_ble_eq_true rfl) dX4_clear_68 (fun H locs hP hD hS => ?_)
      replace hP : va_P D vwCl [(st, eST sr (upd (upd (upd (upd (upd (upd I 4 0) 5 0) 6 0) 7 0) 8 0) 9 0) L), ((sr 0), aI k 5 X1.1), ((sr 1), aI k 5 X1.2.1), ((sr 2), aI k 5 X1.2.2.1), ((sr 3), aI k 5 X1.2.2.2)] H := hP
      replace hD : va_D A [(st, eST sr (upd (upd (upd (upd (upd (upd I 4 0) 5 0) 6 0) 7 0) 8 0) 9 0) L), ((sr 0), aI k 5 X1.1), ((sr 1), aI k 5 X1.2.1), ((sr 2), aI k 5 X1.2.2.1), ((sr 3), aI k 5 X1.2.2.2)] := hD
      refine lv_aload_n hx hb dX4_clear_71 rfl (lv_at hl 1 rfl) ?_
      refine lv_iconst (v := 0) hx hb dX4_clear_72 ci_0 ?_
      refine va_put (D := D) (ci := 3) (v := .int 0) (C := RX4) (T := TX4) (N := 18) hx hb hts in_X4 tyX4 tyX4_ok nmX4 hown hg.1 hP hD hS 0 rfl rfl 10 (Nat.le_of_ble_eq_true rfl) (hts _ q253) (fun _ h9 => h9) rfl ftX4_10 rfl rfl (Nat.le_of_ble_eq_true rfl) dX4_clear_73 (fun H locs hP hD hS => ?_)
      replace hP : va_P D vwCl [(st, eST sr (upd (upd (upd (upd (upd (upd (upd I 4 0) 5 0) 6 0) 7 0) 8 0) 9 0) 10 0) L), ((sr 0), aI k 5 X1.1), ((sr 1), aI k 5 X1.2.1), ((sr 2), aI k 5 X1.2.2.1), ((sr 3), aI k 5 X1.2.2.2)] H := hP
      replace hD : va_D A [(st, eST sr (upd (upd (upd (upd (upd (upd (upd I 4 0) 5 0) 6 0) 7 0) 8 0) 9 0) 10 0) L), ((sr 0), aI k 5 X1.1), ((sr 1), aI k 5 X1.2.1), ((sr 2), aI k 5 X1.2.2.1), ((sr 3), aI k 5 X1.2.2.2)] := hD
      refine lv_aload_n hx hb dX4_clear_76 rfl (lv_at hl 1 rfl) ?_
      refine lv_iconst (v := 0) hx hb dX4_clear_77 ci_0 ?_
      refine va_put (D := D) (ci := 3) (v := .int 0) (C := RX4) (T := TX4) (N := 18) hx hb hts in_X4 tyX4 tyX4_ok nmX4 hown hg.1 hP hD hS 0 rfl rfl 11 (Nat.le_of_ble_eq_true rfl) (hts _ q255) (fun _ h9 => h9) rfl ftX4_11 rfl rfl (Nat.le_of_ble_eq_true rfl) dX4_clear_78 (fun H locs hP hD hS => ?_)
      replace hP : va_P D vwCl [(st, eST sr (upd (upd (upd (upd (upd (upd (upd (upd I 4 0) 5 0) 6 0) 7 0) 8 0) 9 0) 10 0) 11 0) L), ((sr 0), aI k 5 X1.1), ((sr 1), aI k 5 X1.2.1), ((sr 2), aI k 5 X1.2.2.1), ((sr 3), aI k 5 X1.2.2.2)] H := hP
      replace hD : va_D A [(st, eST sr (upd (upd (upd (upd (upd (upd (upd (upd I 4 0) 5 0) 6 0) 7 0) 8 0) 9 0) 10 0) 11 0) L), ((sr 0), aI k 5 X1.1), ((sr 1), aI k 5 X1.2.1), ((sr 2), aI k 5 X1.2.2.1), ((sr 3), aI k 5 X1.2.2.2)] := hD
      refine lv_aload_n hx hb dX4_clear_81 rfl (lv_at hl 1 rfl) ?_
      refine lv_iconst (v := 0) hx hb dX4_clear_82 ci_0 ?_
      refine va_put (D := D) (ci := 3) (v := .int 0) (C := RX4) (T := TX4) (N := 18) hx hb hts in_X4 tyX4 tyX4_ok nmX4 hown hg.1 hP hD hS 0 rfl rfl 12 (Nat.le_of_ble_eq_true rfl) (hts _ q257) (fun _ h9 => h9) rfl ftX4_12 rfl rfl (Nat.le_of_ble_eq_true rfl) dX4_clear_83 (fun H locs hP hD hS => ?_)
      replace hP : va_P D vwCl [(st, eST sr (upd (upd (upd (upd (upd (upd (upd (upd (upd I 4 0) 5 0) 6 0) 7 0) 8 0) 9 0) 10 0) 11 0) 12 0) L), ((sr 0), aI k 5 X1.1), ((sr 1), aI k 5 X1.2.1), ((sr 2), aI k 5 X1.2.2.1), ((sr 3), aI k 5 X1.2.2.2)] H := hP
      replace hD : va_D A [(st, eST sr (upd (upd (upd (upd (upd (upd (upd (upd (upd I 4 0) 5 0) 6 0) 7 0) 8 0) 9 0) 10 0) 11 0) 12 0) L), ((sr 0), aI k 5 X1.1), ((sr 1), aI k 5 X1.2.1), ((sr 2), aI k 5 X1.2.2.1), ((sr 3), aI k 5 X1.2.2.2)] := hD
      refine lv_aload_n hx hb dX4_clear_86 rfl (lv_at hl 1 rfl) ?_
      refine lv_iconst (v := 0) hx hb dX4_clear_87 ci_0 ?_
      refine va_put (D := D) (ci := 3) (v := .int 0) (C := RX4) (T := TX4) (N := 18) hx hb hts in_X4 tyX4 tyX4_ok nmX4 hown hg.1 hP hD hS 0 rfl rfl 13 (Nat.le_of_ble_eq_true rfl) (hts _ q259) (fun _ h9 => h9) rfl ftX4_13 rfl rfl (Nat.le_of_ble_eq_true rfl) dX4_clear_88 (fun H locs hP hD hS => ?_)
      replace hP : va_P D vwCl [(st, eST sr (upd (upd (upd (upd (upd (upd (upd (upd (upd (upd I 4 0) 5 0) 6 0) 7 0) 8 0) 9 0) 10 0) 11 0) 12 0) 13 0) L), ((sr 0), aI k 5 X1.1), ((sr 1), aI k 5 X1.2.1), ((sr 2), aI k 5 X1.2.2.1), ((sr 3), aI k 5 X1.2.2.2)] H := hP
      replace hD : va_D A [(st, eST sr (upd (upd (upd (upd (upd (upd (upd (upd (upd (upd I 4 0) 5 0) 6 0) 7 0) 8 0) 9 0) 10 0) 11 0) 12 0) 13 0) L), ((sr 0), aI k 5 X1.1), ((sr 1), aI k 5 X1.2.1), ((sr 2), aI k 5 X1.2.2.1), ((sr 3), aI k 5 X1.2.2.2)] := hD
      refine lv_aload_n hx hb dX4_clear_91 rfl (lv_at hl 1 rfl) ?_
      refine lv_iconst (v := 0) hx hb dX4_clear_92 ci_0 ?_
      refine va_put (D := D) (ci := 3) (v := .int 0) (C := RX4) (T := TX4) (N := 18) hx hb hts in_X4 tyX4 tyX4_ok nmX4 hown hg.1 hP hD hS 0 rfl rfl 14 (Nat.le_of_ble_eq_true rfl) (hts _ q261) (fun _ h9 => h9) rfl ftX4_14 rfl rfl (Nat.le_of_ble_eq_true rfl) dX4_clear_93 (fun H locs hP hD hS => ?_)
      replace hP : va_P D vwCl [(st, eST sr (upd (upd (upd (upd (upd (upd (upd (upd (upd (upd (upd I 4 0) 5 0) 6 0) 7 0) 8 0) 9 0) 10 0) 11 0) 12 0) 13 0) 14 0) L), ((sr 0), aI k 5 X1.1), ((sr 1), aI k 5 X1.2.1), ((sr 2), aI k 5 X1.2.2.1), ((sr 3), aI k 5 X1.2.2.2)] H := hP
      replace hD : va_D A [(st, eST sr (upd (upd (upd (upd (upd (upd (upd (upd (upd (upd (upd I 4 0) 5 0) 6 0) 7 0) 8 0) 9 0) 10 0) 11 0) 12 0) 13 0) 14 0) L), ((sr 0), aI k 5 X1.1), ((sr 1), aI k 5 X1.2.1), ((sr 2), aI k 5 X1.2.2.1), ((sr 3), aI k 5 X1.2.2.2)] := hD
      refine lv_aload_n hx hb dX4_clear_96 rfl (lv_at hl 1 rfl) ?_
      refine lv_iconst (v := 0) hx hb dX4_clear_97 ci_0 ?_
      refine va_put (D := D) (ci := 3) (v := .int 0) (C := RX4) (T := TX4) (N := 18) hx hb hts in_X4 tyX4 tyX4_ok nmX4 hown hg.1 hP hD hS 0 rfl rfl 15 (Nat.le_of_ble_eq_true rfl) (hts _ q263) (fun _ h9 => h9) rfl ftX4_15 rfl rfl (Nat.le_of_ble_eq_true rfl) dX4_clear_98 (fun H locs hP hD hS => ?_)
      replace hP : va_P D vwCl [(st, eST sr (upd (upd (upd (upd (upd (upd (upd (upd (upd (upd (upd (upd I 4 0) 5 0) 6 0) 7 0) 8 0) 9 0) 10 0) 11 0) 12 0) 13 0) 14 0) 15 0) L), ((sr 0), aI k 5 X1.1), ((sr 1), aI k 5 X1.2.1), ((sr 2), aI k 5 X1.2.2.1), ((sr 3), aI k 5 X1.2.2.2)] H := hP
      replace hD : va_D A [(st, eST sr (upd (upd (upd (upd (upd (upd (upd (upd (upd (upd (upd (upd I 4 0) 5 0) 6 0) 7 0) 8 0) 9 0) 10 0) 11 0) 12 0) 13 0) 14 0) 15 0) L), ((sr 0), aI k 5 X1.1), ((sr 1), aI k 5 X1.2.1), ((sr 2), aI k 5 X1.2.2.1), ((sr 3), aI k 5 X1.2.2.2)] := hD
      refine lv_aload_n hx hb dX4_clear_101 rfl (lv_at hl 1 rfl) ?_
      refine lv_lconst (v := 0) hx hb dX4_clear_102 cl_0 ?_
      refine va_put (D := D) (ci := 3) (v := .long 0) (C := RX4) (T := TX4) (N := 18) hx hb hts in_X4 tyX4 tyX4_ok nmX4 hown hg.1 hP hD hS 0 rfl rfl 16 (Nat.le_of_ble_eq_true rfl) (hts _ q265) (fun _ h9 => h9) rfl ftX4_16 rfl rfl (Nat.le_of_ble_eq_true rfl) dX4_clear_103 (fun H locs hP hD hS => ?_)
      replace hP : va_P D vwCl [(st, eST sr (upd (upd (upd (upd (upd (upd (upd (upd (upd (upd (upd (upd I 4 0) 5 0) 6 0) 7 0) 8 0) 9 0) 10 0) 11 0) 12 0) 13 0) 14 0) 15 0) (vp_updL L 16 0)), ((sr 0), aI k 5 X1.1), ((sr 1), aI k 5 X1.2.1), ((sr 2), aI k 5 X1.2.2.1), ((sr 3), aI k 5 X1.2.2.2)] H := hP
      replace hD : va_D A [(st, eST sr (upd (upd (upd (upd (upd (upd (upd (upd (upd (upd (upd (upd I 4 0) 5 0) 6 0) 7 0) 8 0) 9 0) 10 0) 11 0) 12 0) 13 0) 14 0) 15 0) (vp_updL L 16 0)), ((sr 0), aI k 5 X1.1), ((sr 1), aI k 5 X1.2.1), ((sr 2), aI k 5 X1.2.2.1), ((sr 3), aI k 5 X1.2.2.2)] := hD
      refine lv_aload_n hx hb dX4_clear_106 rfl (lv_at hl 1 rfl) ?_
      refine lv_iconst (v := 0) hx hb dX4_clear_107 ci_0 ?_
      refine va_put (D := D) (ci := 3) (v := .int 0) (C := RX4) (T := TX4) (N := 18) hx hb hts in_X4 tyX4 tyX4_ok nmX4 hown hg.1 hP hD hS 0 rfl rfl 17 (Nat.le_of_ble_eq_true rfl) (hts _ q267) (fun _ h9 => h9) rfl ftX4_17 (x01n (Or.inl rfl)) (x01f (Or.inl rfl)) (Nat.le_of_ble_eq_true rfl) dX4_clear_108 (fun H locs hP hD hS => ?_)
      replace hP : va_P D vwCl [(st, eST sr (upd (upd (upd (upd (upd (upd (upd (upd (upd (upd (upd (upd (upd I 4 0) 5 0) 6 0) 7 0) 8 0) 9 0) 10 0) 11 0) 12 0) 13 0) 14 0) 15 0) 17 0) (vp_updL L 16 0)), ((sr 0), aI k 5 X1.1), ((sr 1), aI k 5 X1.2.1), ((sr 2), aI k 5 X1.2.2.1), ((sr 3), aI k 5 X1.2.2.2)] H := hP
      replace hD : va_D A [(st, eST sr (upd (upd (upd (upd (upd (upd (upd (upd (upd (upd (upd (upd (upd I 4 0) 5 0) 6 0) 7 0) 8 0) 9 0) 10 0) 11 0) 12 0) 13 0) 14 0) 15 0) 17 0) (vp_updL L 16 0)), ((sr 0), aI k 5 X1.1), ((sr 1), aI k 5 X1.2.1), ((sr 2), aI k 5 X1.2.2.1), ((sr 3), aI k 5 X1.2.2.2)] := hD
      exact xret_v hx hb hr hlocks (Nat.le_of_ble_eq_true rfl) (Nat.le_of_ble_eq_true rfl) hS.2.2 dX4_clear_111 (fun t ht => ⟨⟨(0, 0, 0, 0, 0, 0, 0, 0, 0, 0, 0, 0, 0, 0, X1.1, X1.2.1, X1.2.2.1, X1.2.2.2), rfl, ⟨(by subst eX1; exact rfl), (Or.inl rfl)⟩, by rw [ht]; exact hP, hD⟩, hS.F ht⟩)
    | succ n1 ih1 =>
      intro i1 X1 H locs ls hn1 eX1 hP hD hS hl
      have hi1 : i1 < 5 := by omega
      refine lv_iload_n hx hb dX4_clear_2 rfl (lv_at hl 0 rfl) ?_
      refine lv_iconst (v := 5) hx hb dX4_clear_3 ci_5 ?_
      refine lv_icmp_ge (tgt := 41) hx hb dX4_clear_4 (by decide) (fun c => absurd c (xle_f xl_5 rfl (by omega) (by omega))) (fun _ => ?_)
      refine lv_aload_n hx hb dX4_clear_7 rfl (lv_at hl 1 rfl) ?_
      refine va_get (D := D) (ci := 3) (v := .ref (sr 0)) (C := RX4) (T := TX4) (N := 18) hx hb hts in_X4 hown hg.1 hP 0 rfl rfl 0 (Nat.le_of_ble_eq_true rfl) (hts _ q233) (fun _ h9 => h9) rfl dX4_clear_8 ?_
      refine lv_iload_n hx hb dX4_clear_11 rfl (lv_at hl 0 rfl) ?_
      refine lv_iconst (v := 0) hx hb dX4_clear_12 ci_0 ?_
      refine xa_iast hx hb hg hP hD hS 1 rfl rfl (by omega) (by omega) dX4_clear_13 (fun f14 H locs ef14 hP hD hS => ?_)
      replace hP : va_P D vwCl [(st, eST sr I L), ((sr 0), aI k 5 f14), ((sr 1), aI k 5 X1.2.1), ((sr 2), aI k 5 X1.2.2.1), ((sr 3), aI k 5 X1.2.2.2)] H := hP
      replace hD : va_D A [(st, eST sr I L), ((sr 0), aI k 5 f14), ((sr 1), aI k 5 X1.2.1), ((sr 2), aI k 5 X1.2.2.1), ((sr 3), aI k 5 X1.2.2.2)] := hD
      refine lv_aload_n hx hb dX4_clear_14 rfl (lv_at hl 1 rfl) ?_
      refine va_get (D := D) (ci := 3) (v := .ref (sr 1)) (C := RX4) (T := TX4) (N := 18) hx hb hts in_X4 hown hg.1 hP 0 rfl rfl 1 (Nat.le_of_ble_eq_true rfl) (hts _ q235) (fun _ h9 => h9) rfl dX4_clear_15 ?_
      refine lv_iload_n hx hb dX4_clear_18 rfl (lv_at hl 0 rfl) ?_
      refine lv_iconst (v := 0) hx hb dX4_clear_19 ci_0 ?_
      refine xa_iast hx hb hg hP hD hS 2 rfl rfl (by omega) (by omega) dX4_clear_20 (fun f15 H locs ef15 hP hD hS => ?_)
      replace hP : va_P D vwCl [(st, eST sr I L), ((sr 0), aI k 5 f14), ((sr 1), aI k 5 f15), ((sr 2), aI k 5 X1.2.2.1), ((sr 3), aI k 5 X1.2.2.2)] H := hP
      replace hD : va_D A [(st, eST sr I L), ((sr 0), aI k 5 f14), ((sr 1), aI k 5 f15), ((sr 2), aI k 5 X1.2.2.1), ((sr 3), aI k 5 X1.2.2.2)] := hD
      refine lv_aload_n hx hb dX4_clear_21 rfl (lv_at hl 1 rfl) ?_
      refine va_get (D := D) (ci := 3) (v := .ref (sr 2)) (C := RX4) (T := TX4) (N := 18) hx hb hts in_X4 hown hg.1 hP 0 rfl rfl 2 (Nat.le_of_ble_eq_true rfl) (hts _ q237) (fun _ h9 => h9) rfl dX4_clear_22 ?_
      refine lv_iload_n hx hb dX4_clear_25 rfl (lv_at hl 0 rfl) ?_
      refine lv_iconst (v := 0) hx hb dX4_clear_26 ci_0 ?_
      refine xa_iast hx hb hg hP hD hS 3 rfl rfl (by omega) (by omega) dX4_clear_27 (fun f16 H locs ef16 hP hD hS => ?_)
      replace hP : va_P D vwCl [(st, eST sr I L), ((sr 0), aI k 5 f14), ((sr 1), aI k 5 f15), ((sr 2), aI k 5 f16), ((sr 3), aI k 5 X1.2.2.2)] H := hP
      replace hD : va_D A [(st, eST sr I L), ((sr 0), aI k 5 f14), ((sr 1), aI k 5 f15), ((sr 2), aI k 5 f16), ((sr 3), aI k 5 X1.2.2.2)] := hD
      refine lv_aload_n hx hb dX4_clear_28 rfl (lv_at hl 1 rfl) ?_
      refine va_get (D := D) (ci := 3) (v := .ref (sr 3)) (C := RX4) (T := TX4) (N := 18) hx hb hts in_X4 hown hg.1 hP 0 rfl rfl 3 (Nat.le_of_ble_eq_true rfl) (hts _ q239) (fun _ h9 => h9) rfl dX4_clear_29 ?_
      refine lv_iload_n hx hb dX4_clear_32 rfl (lv_at hl 0 rfl) ?_
      refine lv_iconst (v := 0) hx hb dX4_clear_33 ci_0 ?_
      refine xa_iast hx hb hg hP hD hS 4 rfl rfl (by omega) (by omega) dX4_clear_34 (fun f17 H locs ef17 hP hD hS => ?_)
      replace hP : va_P D vwCl [(st, eST sr I L), ((sr 0), aI k 5 f14), ((sr 1), aI k 5 f15), ((sr 2), aI k 5 f16), ((sr 3), aI k 5 f17)] H := hP
      replace hD : va_D A [(st, eST sr I L), ((sr 0), aI k 5 f14), ((sr 1), aI k 5 f15), ((sr 2), aI k 5 f16), ((sr 3), aI k 5 f17)] := hD
      refine lv_iinc (v := (nI (i1 + 1))) (lv' := [(1, .int (nI (i1 + 1))), (0, .ref st)]) hx hb dX4_clear_35 hl (k := 0) rfl (xinc1 _) (Nat.le_of_ble_eq_true rfl) rfl (fun ls hl => ?_)
      refine lv_goto (tgt := 2) hx hb dX4_clear_38 (by decide) ?_
      exact ih1 (i1 + 1) (f14, f15, f16, f17) _ _ _ (by omega) (Eq.trans (by subst ef17; subst ef16; subst ef15; subst ef14; exact rfl) (congrArg (f_X4_clear_l2 i1) eX1)) hP hD hS (lv_sub hl [0, 1] rfl)
  exact loop1 5 0 (h0, h1, h2, h3) _ _ _ (by omega) rfl hP hD hS (by have h := (lv_sub hl [0, 1] rfl); exact h)

def f_X4_become (h0 : Nat → Int32) (h1 : Nat → Int32) (h2 : Nat → Int32) (h3 : Nat → Int32) (I2 : Nat → Int32) (L2 : Nat → Int64) (g0 : Nat → Int32) (g1 : Nat → Int32) (g2 : Nat → Int32) (g3 : Nat → Int32) : Int32 × Int32 × Int32 × Int32 × Int32 × Int32 × Int32 × Int32 × Int32 × Int32 × Int32 × Int32 × Int64 × Int32 × (Nat → Int32) × (Nat → Int32) × (Nat → Int32) × (Nat → Int32) :=
  let f1 := va_cpy g0 h0 0 0 5
  let f2 := va_cpy g1 h1 0 0 5
  let f3 := va_cpy g2 h2 0 0 5
  let f4 := va_cpy g3 h3 0 0 5
  let x5 := (I2 4)
  let x6 := (I2 5)
  let x7 := (I2 6)
  let x8 := (I2 7)
  let x9 := (I2 8)
  let x10 := (I2 9)
  let x11 := (I2 10)
  let x12 := (I2 11)
  let x13 := (I2 12)
  let x14 := (I2 13)
  let x15 := (I2 14)
  let x16 := (I2 15)
  let x17 := (L2 16)
  let x18 := (I2 17)
  (x5, x6, x7, x8, x9, x10, x11, x12, x13, x14, x15, x16, x17, x18, f1, f2, f3, f4)
abbrev q_X4_become (D : va_G) (k : KK) (st : Nat) (sr : Nat → Nat) (I : Nat → Int32) (L : Nat → Int64) (h0 : Nat → Int32) (h1 : Nat → Int32) (h2 : Nat → Int32) (h3 : Nat → Int32) (s2 : Nat) (sr2 : Nat → Nat) (I2 : Nat → Int32) (L2 : Nat → Int64) (g0 : Nat → Int32) (g1 : Nat → Int32) (g2 : Nat → Int32) (g3 : Nat → Int32) (A : Nat → Prop) : Array Value → State → Outcome → State → Prop := va_Qv (fun (u : Int32 × Int32 × Int32 × Int32 × Int32 × Int32 × Int32 × Int32 × Int32 × Int32 × Int32 × Int32 × Int64 × Int32 × (Nat → Int32) × (Nat → Int32) × (Nat → Int32) × (Nat → Int32)) => u = f_X4_become h0 h1 h2 h3 I2 L2 g0 g1 g2 g3 ∧ (u.2.2.2.2.2.2.2.2.2.2.2.2.2.1 = 0 ∨ u.2.2.2.2.2.2.2.2.2.2.2.2.2.1 = 1)) (bx D (fun u => [(st, eST sr (upd (upd (upd (upd (upd (upd (upd (upd (upd (upd (upd (upd (upd I 4 u.1) 5 u.2.1) 6 u.2.2.1) 7 u.2.2.2.1) 8 u.2.2.2.2.1) 9 u.2.2.2.2.2.1) 10 u.2.2.2.2.2.2.1) 11 u.2.2.2.2.2.2.2.1) 12 u.2.2.2.2.2.2.2.2.1) 13 u.2.2.2.2.2.2.2.2.2.1) 14 u.2.2.2.2.2.2.2.2.2.2.1) 15 u.2.2.2.2.2.2.2.2.2.2.2.1) 17 u.2.2.2.2.2.2.2.2.2.2.2.2.2.1) (vp_updL L 16 u.2.2.2.2.2.2.2.2.2.2.2.2.1)), ((sr 0), aI k 5 u.2.2.2.2.2.2.2.2.2.2.2.2.2.2.1), ((sr 1), aI k 5 u.2.2.2.2.2.2.2.2.2.2.2.2.2.2.2.1), ((sr 2), aI k 5 u.2.2.2.2.2.2.2.2.2.2.2.2.2.2.2.2.1), ((sr 3), aI k 5 u.2.2.2.2.2.2.2.2.2.2.2.2.2.2.2.2.2), (s2, eST sr2 I2 L2), ((sr2 0), aI k 5 g0), ((sr2 1), aI k 5 g1), ((sr2 2), aI k 5 g2), ((sr2 3), aI k 5 g3)]) A) A
abbrev rm_X4_become : Room := { frames := 1, cells := 0, slots := 0, locals := 40 }
theorem xo_X4_become : xok yX4_become 1 := by unfold xok; decide +kernel
set_option maxHeartbeats 8000000 in
theorem m_X4_become (l : Launch) (D : va_G) (k : KK) (sz : Nat) (st : Nat) (sr : Nat → Nat) (I : Nat → Int32) (L : Nat → Int64) (h0 : Nat → Int32) (h1 : Nat → Int32) (h2 : Nat → Int32) (h3 : Nat → Int32) (s2 : Nat) (sr2 : Nat → Nat) (I2 : Nat → Int32) (L2 : Nat → Int64) (g0 : Nat → Int32) (g1 : Nat → Int32) (g2 : Nat → Int32) (g3 : Nat → Int32) (hst2 : I2 17 = 0 ∨ I2 17 = 1) : Met l yX4_become (ws_ yX4_become cX4_become 2 none) rm_X4_become (pcx D k [.ref st, .ref s2] sz [(st, eST sr I L), ((sr 0), aI k 5 h0), ((sr 1), aI k 5 h1), ((sr 2), aI k 5 h2), ((sr 3), aI k 5 h3), (s2, eST sr2 I2 L2), ((sr2 0), aI k 5 g0), ((sr2 1), aI k 5 g1), ((sr2 2), aI k 5 g2), ((sr2 3), aI k 5 g3)] (fun _ => True)) (q_X4_become D k st sr I L h0 h1 h2 h3 s2 sr2 I2 L2 g0 g1 g2 g3 (va_A [(st, eST sr I L), ((sr 0), aI k 5 h0), ((sr 1), aI k 5 h1), ((sr 2), aI k 5 h2), ((sr 3), aI k 5 h3), (s2, eST sr2 I2 L2), ((sr2 0), aI k 5 g0), ((sr2 1), aI k 5 g1), ((sr2 2), aI k 5 g2), ((sr2 3), aI k 5 g3)] sz)) 0 0 (va_A [(st, eST sr I L), ((sr 0), aI k 5 h0), ((sr 1), aI k 5 h1), ((sr 2), aI k 5 h2), ((sr 3), aI k 5 h3), (s2, eST sr2 I2 L2), ((sr2 0), aI k 5 g0), ((sr2 1), aI k 5 g1), ((sr2 2), aI k 5 g2), ((sr2 3), aI k 5 g3)] sz) := by
  refine Met.start (Qc := q_X4_become D k st sr I L h0 h1 h2 h3 s2 sr2 I2 L2 g0 g1 g2 g3) (by decide) (Nat.le_of_ble_eq_true rfl) ?_
  intro p e s m below meth c A hx hb hr hlocks hml hown hin hts hg hP hD hA hAn hS hY hsz ls hl
  have hown : s.vm.findClass RX4 = some m.cls := hown
  have hl : lv_has ls 2 [(0, .ref st), (1, .ref s2)] := hl
  refine lv_aload_n hx hb dX4_become_0 rfl (lv_at hl 1 rfl) ?_
  refine va_get (D := D) (ci := 3) (v := .ref (sr2 0)) (C := RX4) (T := TX4) (N := 18) hx hb hts in_X4 hown hg.1 hP 5 rfl rfl 0 (Nat.le_of_ble_eq_true rfl) (hts _ q233) (fun _ h9 => h9) rfl dX4_become_1 ?_
  refine lv_iconst (v := 0) hx hb dX4_become_4 ci_0 ?_
  refine lv_aload_n hx hb dX4_become_5 rfl (lv_at hl 0 rfl) ?_
  refine va_get (D := D) (ci := 3) (v := .ref (sr 0)) (C := RX4) (T := TX4) (N := 18) hx hb hts in_X4 hown hg.1 hP 0 rfl rfl 0 (Nat.le_of_ble_eq_true rfl) (hts _ q233) (fun _ h9 => h9) rfl dX4_become_6 ?_
  refine lv_iconst (v := 0) hx hb dX4_become_9 ci_0 ?_
  refine lv_iconst (v := 5) hx hb dX4_become_10 ci_5 ?_
  refine xa_copyi hx hb (by rw [hml]; exact hl.1.symm) hown (hts _ q1028) (hts _ q1019) (hts _ q1018) (hts _ q105) hg hP hD hS 6 1 rfl rfl xl_0 xl_0 xl_5 (by omega) (by omega) (by omega) (by omega) (Nat.le_of_ble_eq_true rfl) (Nat.le_of_ble_eq_true rfl) dX4_become_11 (fun f1 H locs ef1 hP hD hS => ?_)
  replace hP : va_P D vwCl [(st, eST sr I L), ((sr 0), aI k 5 f1), ((sr 1), aI k 5 h1), ((sr 2), aI k 5 h2), ((sr 3), aI k 5 h3), (s2, eST sr2 I2 L2), ((sr2 0), aI k 5 g0), ((sr2 1), aI k 5 g1), ((sr2 2), aI k 5 g2), ((sr2 3), aI k 5 g3)] H := hP
  replace hD : va_D A [(st, eST sr I L), ((sr 0), aI k 5 f1), ((sr 1), aI k 5 h1), ((sr 2), aI k 5 h2), ((sr 3), aI k 5 h3), (s2, eST sr2 I2 L2), ((sr2 0), aI k 5 g0), ((sr2 1), aI k 5 g1), ((sr2 2), aI k 5 g2), ((sr2 3), aI k 5 g3)] := hD
  refine lv_aload_n hx hb dX4_become_14 rfl (lv_at hl 1 rfl) ?_
  refine va_get (D := D) (ci := 3) (v := .ref (sr2 1)) (C := RX4) (T := TX4) (N := 18) hx hb hts in_X4 hown hg.1 hP 5 rfl rfl 1 (Nat.le_of_ble_eq_true rfl) (hts _ q235) (fun _ h9 => h9) rfl dX4_become_15 ?_
  refine lv_iconst (v := 0) hx hb dX4_become_18 ci_0 ?_
  refine lv_aload_n hx hb dX4_become_19 rfl (lv_at hl 0 rfl) ?_
  refine va_get (D := D) (ci := 3) (v := .ref (sr 1)) (C := RX4) (T := TX4) (N := 18) hx hb hts in_X4 hown hg.1 hP 0 rfl rfl 1 (Nat.le_of_ble_eq_true rfl) (hts _ q235) (fun _ h9 => h9) rfl dX4_become_20 ?_
  refine lv_iconst (v := 0) hx hb dX4_become_23 ci_0 ?_
  refine lv_iconst (v := 5) hx hb dX4_become_24 ci_5 ?_
  refine xa_copyi hx hb (by rw [hml]; exact hl.1.symm) hown (hts _ q1028) (hts _ q1019) (hts _ q1018) (hts _ q105) hg hP hD hS 7 2 rfl rfl xl_0 xl_0 xl_5 (by omega) (by omega) (by omega) (by omega) (Nat.le_of_ble_eq_true rfl) (Nat.le_of_ble_eq_true rfl) dX4_become_25 (fun f2 H locs ef2 hP hD hS => ?_)
  replace hP : va_P D vwCl [(st, eST sr I L), ((sr 0), aI k 5 f1), ((sr 1), aI k 5 f2), ((sr 2), aI k 5 h2), ((sr 3), aI k 5 h3), (s2, eST sr2 I2 L2), ((sr2 0), aI k 5 g0), ((sr2 1), aI k 5 g1), ((sr2 2), aI k 5 g2), ((sr2 3), aI k 5 g3)] H := hP
  replace hD : va_D A [(st, eST sr I L), ((sr 0), aI k 5 f1), ((sr 1), aI k 5 f2), ((sr 2), aI k 5 h2), ((sr 3), aI k 5 h3), (s2, eST sr2 I2 L2), ((sr2 0), aI k 5 g0), ((sr2 1), aI k 5 g1), ((sr2 2), aI k 5 g2), ((sr2 3), aI k 5 g3)] := hD
  refine lv_aload_n hx hb dX4_become_28 rfl (lv_at hl 1 rfl) ?_
  refine va_get (D := D) (ci := 3) (v := .ref (sr2 2)) (C := RX4) (T := TX4) (N := 18) hx hb hts in_X4 hown hg.1 hP 5 rfl rfl 2 (Nat.le_of_ble_eq_true rfl) (hts _ q237) (fun _ h9 => h9) rfl dX4_become_29 ?_
  refine lv_iconst (v := 0) hx hb dX4_become_32 ci_0 ?_
  refine lv_aload_n hx hb dX4_become_33 rfl (lv_at hl 0 rfl) ?_
  refine va_get (D := D) (ci := 3) (v := .ref (sr 2)) (C := RX4) (T := TX4) (N := 18) hx hb hts in_X4 hown hg.1 hP 0 rfl rfl 2 (Nat.le_of_ble_eq_true rfl) (hts _ q237) (fun _ h9 => h9) rfl dX4_become_34 ?_
  refine lv_iconst (v := 0) hx hb dX4_become_37 ci_0 ?_
  refine lv_iconst (v := 5) hx hb dX4_become_38 ci_5 ?_
  refine xa_copyi hx hb (by rw [hml]; exact hl.1.symm) hown (hts _ q1028) (hts _ q1019) (hts _ q1018) (hts _ q105) hg hP hD hS 8 3 rfl rfl xl_0 xl_0 xl_5 (by omega) (by omega) (by omega) (by omega) (Nat.le_of_ble_eq_true rfl) (Nat.le_of_ble_eq_true rfl) dX4_become_39 (fun f3 H locs ef3 hP hD hS => ?_)
  replace hP : va_P D vwCl [(st, eST sr I L), ((sr 0), aI k 5 f1), ((sr 1), aI k 5 f2), ((sr 2), aI k 5 f3), ((sr 3), aI k 5 h3), (s2, eST sr2 I2 L2), ((sr2 0), aI k 5 g0), ((sr2 1), aI k 5 g1), ((sr2 2), aI k 5 g2), ((sr2 3), aI k 5 g3)] H := hP
  replace hD : va_D A [(st, eST sr I L), ((sr 0), aI k 5 f1), ((sr 1), aI k 5 f2), ((sr 2), aI k 5 f3), ((sr 3), aI k 5 h3), (s2, eST sr2 I2 L2), ((sr2 0), aI k 5 g0), ((sr2 1), aI k 5 g1), ((sr2 2), aI k 5 g2), ((sr2 3), aI k 5 g3)] := hD
  refine lv_aload_n hx hb dX4_become_42 rfl (lv_at hl 1 rfl) ?_
  refine va_get (D := D) (ci := 3) (v := .ref (sr2 3)) (C := RX4) (T := TX4) (N := 18) hx hb hts in_X4 hown hg.1 hP 5 rfl rfl 3 (Nat.le_of_ble_eq_true rfl) (hts _ q239) (fun _ h9 => h9) rfl dX4_become_43 ?_
  refine lv_iconst (v := 0) hx hb dX4_become_46 ci_0 ?_
  refine lv_aload_n hx hb dX4_become_47 rfl (lv_at hl 0 rfl) ?_
  refine va_get (D := D) (ci := 3) (v := .ref (sr 3)) (C := RX4) (T := TX4) (N := 18) hx hb hts in_X4 hown hg.1 hP 0 rfl rfl 3 (Nat.le_of_ble_eq_true rfl) (hts _ q239) (fun _ h9 => h9) rfl dX4_become_48 ?_
  refine lv_iconst (v := 0) hx hb dX4_become_51 ci_0 ?_
  refine lv_iconst (v := 5) hx hb dX4_become_52 ci_5 ?_
  refine xa_copyi hx hb (by rw [hml]; exact hl.1.symm) hown (hts _ q1028) (hts _ q1019) (hts _ q1018) (hts _ q105) hg hP hD hS 9 4 rfl rfl xl_0 xl_0 xl_5 (by omega) (by omega) (by omega) (by omega) (Nat.le_of_ble_eq_true rfl) (Nat.le_of_ble_eq_true rfl) dX4_become_53 (fun f4 H locs ef4 hP hD hS => ?_)
  replace hP : va_P D vwCl [(st, eST sr I L), ((sr 0), aI k 5 f1), ((sr 1), aI k 5 f2), ((sr 2), aI k 5 f3), ((sr 3), aI k 5 f4), (s2, eST sr2 I2 L2), ((sr2 0), aI k 5 g0), ((sr2 1), aI k 5 g1), ((sr2 2), aI k 5 g2), ((sr2 3), aI k 5 g3)] H := hP
  replace hD : va_D A [(st, eST sr I L), ((sr 0), aI k 5 f1), ((sr 1), aI k 5 f2), ((sr 2), aI k 5 f3), ((sr 3), aI k 5 f4), (s2, eST sr2 I2 L2), ((sr2 0), aI k 5 g0), ((sr2 1), aI k 5 g1), ((sr2 2), aI k 5 g2), ((sr2 3), aI k 5 g3)] := hD
  refine lv_aload_n hx hb dX4_become_56 rfl (lv_at hl 0 rfl) ?_
  refine lv_aload_n hx hb dX4_become_57 rfl (lv_at hl 1 rfl) ?_
  refine va_get (D := D) (ci := 3) (v := .int (I2 4)) (C := RX4) (T := TX4) (N := 18) hx hb hts in_X4 hown hg.1 hP 5 rfl rfl 4 (Nat.le_of_ble_eq_true rfl) (hts _ q241) (fun _ h9 => h9) rfl dX4_become_58 ?_
  refine lv_topi (fun x5 ex5 => ?_)
  refine va_put (D := D) (ci := 3) (v := .int x5) (C := RX4) (T := TX4) (N := 18) hx hb hts in_X4 tyX4 tyX4_ok nmX4 hown hg.1 hP hD hS 0 rfl rfl 4 (Nat.le_of_ble_eq_true rfl) (hts _ q241) (fun _ h9 => h9) rfl ftX4_4 rfl rfl (Nat.le_of_ble_eq_true rfl) dX4_become_61 (fun H locs hP hD hS => ?_)
  replace hP : va_P D vwCl [(st, eST sr (upd I 4 x5) L), ((sr 0), aI k 5 f1), ((sr 1), aI k 5 f2), ((sr 2), aI k 5 f3), ((sr 3), aI k 5 f4), (s2, eST sr2 I2 L2), ((sr2 0), aI k 5 g0), ((sr2 1), aI k 5 g1), ((sr2 2), aI k 5 g2), ((sr2 3), aI k 5 g3)] H := hP
  replace hD : va_D A [(st, eST sr (upd I 4 x5) L), ((sr 0), aI k 5 f1), ((sr 1), aI k 5 f2), ((sr 2), aI k 5 f3), ((sr 3), aI k 5 f4), (s2, eST sr2 I2 L2), ((sr2 0), aI k 5 g0), ((sr2 1), aI k 5 g1), ((sr2 2), aI k 5 g2), ((sr2 3), aI k 5 g3)] := hD
  refine lv_aload_n hx hb dX4_become_64 rfl (lv_at hl 0 rfl) ?_
  refine lv_aload_n hx hb dX4_become_65 rfl (lv_at hl 1 rfl) ?_
  refine va_get (D := D) (ci := 3) (v := .int (I2 5)) (C := RX4) (T := TX4) (N := 18) hx hb hts in_X4 hown hg.1 hP 5 rfl rfl 5 (Nat.le_of_ble_eq_true rfl) (hts _ q243) (fun _ h9 => h9) rfl dX4_become_66 ?_
  refine lv_topi (fun x6 ex6 => ?_)
  refine va_put (D := D) (ci := 3) (v := .int x6) (C := RX4) (T := TX4) (N := 18) hx hb hts in_X4 tyX4 tyX4_ok nmX4 hown hg.1 hP hD hS 0 rfl rfl 5 (Nat.le_of_ble_eq_true rfl) (hts _ q243) (fun _ h9 => h9) rfl ftX4_5 rfl rfl (Nat.le_of_ble_eq_true rfl) dX4_become_69 (fun H locs hP hD hS => ?_)
  replace hP : va_P D vwCl [(st, eST sr (upd (upd I 4 x5) 5 x6) L), ((sr 0), aI k 5 f1), ((sr 1), aI k 5 f2), ((sr 2), aI k 5 f3), ((sr 3), aI k 5 f4), (s2, eST sr2 I2 L2), ((sr2 0), aI k 5 g0), ((sr2 1), aI k 5 g1), ((sr2 2), aI k 5 g2), ((sr2 3), aI k 5 g3)] H := hP
  replace hD : va_D A [(st, eST sr (upd (upd I 4 x5) 5 x6) L), ((sr 0), aI k 5 f1), ((sr 1), aI k 5 f2), ((sr 2), aI k 5 f3), ((sr 3), aI k 5 f4), (s2, eST sr2 I2 L2), ((sr2 0), aI k 5 g0), ((sr2 1), aI k 5 g1), ((sr2 2), aI k 5 g2), ((sr2 3), aI k 5 g3)] := hD
  refine lv_aload_n hx hb dX4_become_72 rfl (lv_at hl 0 rfl) ?_
  refine lv_aload_n hx hb dX4_become_73 rfl (lv_at hl 1 rfl) ?_
  refine va_get (D := D) (ci := 3) (v := .int (I2 6)) (C := RX4) (T := TX4) (N := 18) hx hb hts in_X4 hown hg.1 hP 5 rfl rfl 6 (Nat.le_of_ble_eq_true rfl) (hts _ q245) (fun _ h9 => h9) rfl dX4_become_74 ?_
  refine lv_topi (fun x7 ex7 => ?_)
  refine va_put (D := D) (ci := 3) (v := .int x7) (C := RX4) (T := TX4) (N := 18) hx hb hts in_X4 tyX4 tyX4_ok nmX4 hown hg.1 hP hD hS 0 rfl rfl 6 (Nat.le_of_ble_eq_true rfl) (hts _ q245) (fun _ h9 => h9) rfl ftX4_6 rfl rfl (Nat.le_of_ble_eq_true rfl) dX4_become_77 (fun H locs hP hD hS => ?_)
  replace hP : va_P D vwCl [(st, eST sr (upd (upd (upd I 4 x5) 5 x6) 6 x7) L), ((sr 0), aI k 5 f1), ((sr 1), aI k 5 f2), ((sr 2), aI k 5 f3), ((sr 3), aI k 5 f4), (s2, eST sr2 I2 L2), ((sr2 0), aI k 5 g0), ((sr2 1), aI k 5 g1), ((sr2 2), aI k 5 g2), ((sr2 3), aI k 5 g3)] H := hP
  replace hD : va_D A [(st, eST sr (upd (upd (upd I 4 x5) 5 x6) 6 x7) L), ((sr 0), aI k 5 f1), ((sr 1), aI k 5 f2), ((sr 2), aI k 5 f3), ((sr 3), aI k 5 f4), (s2, eST sr2 I2 L2), ((sr2 0), aI k 5 g0), ((sr2 1), aI k 5 g1), ((sr2 2), aI k 5 g2), ((sr2 3), aI k 5 g3)] := hD
  refine lv_aload_n hx hb dX4_become_80 rfl (lv_at hl 0 rfl) ?_
  refine lv_aload_n hx hb dX4_become_81 rfl (lv_at hl 1 rfl) ?_
  refine va_get (D := D) (ci := 3) (v := .int (I2 7)) (C := RX4) (T := TX4) (N := 18) hx hb hts in_X4 hown hg.1 hP 5 rfl rfl 7 (Nat.le_of_ble_eq_true rfl) (hts _ q247) (fun _ h9 => h9) rfl dX4_become_82 ?_
  refine lv_topi (fun x8 ex8 => ?_)
  refine va_put (D := D) (ci := 3) (v := .int x8) (C := RX4) (T := TX4) (N := 18) hx hb hts in_X4 tyX4 tyX4_ok nmX4 hown hg.1 hP hD hS 0 rfl rfl 7 (Nat.le_of_ble_eq_true rfl) (hts _ q247) (fun _ h9 => h9) rfl ftX4_7 rfl rfl (Nat.le_of_ble_eq_true rfl) dX4_become_85 (fun H locs hP hD hS => ?_)
  replace hP : va_P D vwCl [(st, eST sr (upd (upd (upd (upd I 4 x5) 5 x6) 6 x7) 7 x8) L), ((sr 0), aI k 5 f1), ((sr 1), aI k 5 f2), ((sr 2), aI k 5 f3), ((sr 3), aI k 5 f4), (s2, eST sr2 I2 L2), ((sr2 0), aI k 5 g0), ((sr2 1), aI k 5 g1), ((sr2 2), aI k 5 g2), ((sr2 3), aI k 5 g3)] H := hP
  replace hD : va_D A [(st, eST sr (upd (upd (upd (upd I 4 x5) 5 x6) 6 x7) 7 x8) L), ((sr 0), aI k 5 f1), ((sr 1), aI k 5 f2), ((sr 2), aI k 5 f3), ((sr 3), aI k 5 f4), (s2, eST sr2 I2 L2), ((sr2 0), aI k 5 g0), ((sr2 1), aI k 5 g1), ((sr2 2), aI k 5 g2), ((sr2 3), aI k 5 g3)] := hD
  refine lv_aload_n hx hb dX4_become_88 rfl (lv_at hl 0 rfl) ?_
  refine lv_aload_n hx hb dX4_become_89 rfl (lv_at hl 1 rfl) ?_
  refine va_get (D := D) (ci := 3) (v := .int (I2 8)) (C := RX4) (T := TX4) (N := 18) hx hb hts in_X4 hown hg.1 hP 5 rfl rfl 8 (Nat.le_of_ble_eq_true rfl) (hts _ q249) (fun _ h9 => h9) rfl dX4_become_90 ?_
  refine lv_topi (fun x9 ex9 => ?_)
  refine va_put (D := D) (ci := 3) (v := .int x9) (C := RX4) (T := TX4) (N := 18) hx hb hts in_X4 tyX4 tyX4_ok nmX4 hown hg.1 hP hD hS 0 rfl rfl 8 (Nat.le_of_ble_eq_true rfl) (hts _ q249) (fun _ h9 => h9) rfl ftX4_8 rfl rfl (Nat.le_of_ble_eq_true rfl) dX4_become_93 (fun H locs hP hD hS => ?_)
  replace hP : va_P D vwCl [(st, eST sr (upd (upd (upd (upd (upd I 4 x5) 5 x6) 6 x7) 7 x8) 8 x9) L), ((sr 0), aI k 5 f1), ((sr 1), aI k 5 f2), ((sr 2), aI k 5 f3), ((sr 3), aI k 5 f4), (s2, eST sr2 I2 L2), ((sr2 0), aI k 5 g0), ((sr2 1), aI k 5 g1), ((sr2 2), aI k 5 g2), ((sr2 3), aI k 5 g3)] H := hP
  replace hD : va_D A [(st, eST sr (upd (upd (upd (upd (upd I 4 x5) 5 x6) 6 x7) 7 x8) 8 x9) L), ((sr 0), aI k 5 f1), ((sr 1), aI k 5 f2), ((sr 2), aI k 5 f3), ((sr 3), aI k 5 f4), (s2, eST sr2 I2 L2), ((sr2 0), aI k 5 g0), ((sr2 1), aI k 5 g1), ((sr2 2), aI k 5 g2), ((sr2 3), aI k 5 g3)] := hD
  refine lv_aload_n hx hb dX4_become_96 rfl (lv_at hl 0 rfl) ?_
  refine lv_aload_n hx hb dX4_become_97 rfl (lv_at hl 1 rfl) ?_
  refine va_get (D := D) (ci := 3) (v := .int (I2 9)) (C := RX4) (T := TX4) (N := 18) hx hb hts in_X4 hown hg.1 hP 5 rfl rfl 9 (Nat.le_of_ble_eq_true rfl) (hts _ q251) (fun _ h9 => h9) rfl dX4_become_98 ?_
  refine lv_topi (fun x10 ex10 => ?_)
  refine va_put (D := D) (ci := 3) (v := .int x10) (C := RX4) (T := TX4) (N := 18) hx hb hts in_X4 tyX4 tyX4_ok nmX4 hown hg.1 hP hD hS 0 rfl rfl 9 (Nat.le_of_ble_eq_true rfl) (hts _ q251) (fun _ h9 => h9) rfl ftX4_9 rfl rfl (Nat.le_of_ble_eq_true rfl) dX4_become_101 (fun H locs hP hD hS => ?_)
  replace hP : va_P D vwCl [(st, eST sr (upd (upd (upd (upd (upd (upd I 4 x5) 5 x6) 6 x7) 7 x8) 8 x9) 9 x10) L), ((sr 0), aI k 5 f1), ((sr 1), aI k 5 f2), ((sr 2), aI k 5 f3), ((sr 3), aI k 5 f4), (s2, eST sr2 I2 L2), ((sr2 0), aI k 5 g0), ((sr2 1), aI k 5 g1), ((sr2 2), aI k 5 g2), ((sr2 3), aI k 5 g3)] H := hP
  replace hD : va_D A [(st, eST sr (upd (upd (upd (upd (upd (upd I 4 x5) 5 x6) 6 x7) 7 x8) 8 x9) 9 x10) L), ((sr 0), aI k 5 f1), ((sr 1), aI k 5 f2), ((sr 2), aI k 5 f3), ((sr 3), aI k 5 f4), (s2, eST sr2 I2 L2), ((sr2 0), aI k 5 g0), ((sr2 1), aI k 5 g1), ((sr2 2), aI k 5 g2), ((sr2 3), aI k 5 g3)] := hD
  refine lv_aload_n hx hb dX4_become_104 rfl (lv_at hl 0 rfl) ?_
  refine lv_aload_n hx hb dX4_become_105 rfl (lv_at hl 1 rfl) ?_
  refine va_get (D := D) (ci := 3) (v := .int (I2 10)) (C := RX4) (T := TX4) (N := 18) hx hb hts in_X4 hown hg.1 hP 5 rfl rfl 10 (Nat.le_of_ble_eq_true rfl) (hts _ q253) (fun _ h9 => h9) rfl dX4_become_106 ?_
  refine lv_topi (fun x11 ex11 => ?_)
  refine va_put (D := D) (ci := 3) (v := .int x11) (C := RX4) (T := TX4) (N := 18) hx hb hts in_X4 tyX4 tyX4_ok nmX4 hown hg.1 hP hD hS 0 rfl rfl 10 (Nat.le_of_ble_eq_true rfl) (hts _ q253) (fun _ h9 => h9) rfl ftX4_10 rfl rfl (Nat.le_of_ble_eq_true rfl) dX4_become_109 (fun H locs hP hD hS => ?_)
  replace hP : va_P D vwCl [(st, eST sr (upd (upd (upd (upd (upd (upd (upd I 4 x5) 5 x6) 6 x7) 7 x8) 8 x9) 9 x10) 10 x11) L), ((sr 0), aI k 5 f1), ((sr 1), aI k 5 f2), ((sr 2), aI k 5 f3), ((sr 3), aI k 5 f4), (s2, eST sr2 I2 L2), ((sr2 0), aI k 5 g0), ((sr2 1), aI k 5 g1), ((sr2 2), aI k 5 g2), ((sr2 3), aI k 5 g3)] H := hP
  replace hD : va_D A [(st, eST sr (upd (upd (upd (upd (upd (upd (upd I 4 x5) 5 x6) 6 x7) 7 x8) 8 x9) 9 x10) 10 x11) L), ((sr 0), aI k 5 f1), ((sr 1), aI k 5 f2), ((sr 2), aI k 5 f3), ((sr 3), aI k 5 f4), (s2, eST sr2 I2 L2), ((sr2 0), aI k 5 g0), ((sr2 1), aI k 5 g1), ((sr2 2), aI k 5 g2), ((sr2 3), aI k 5 g3)] := hD
  refine lv_aload_n hx hb dX4_become_112 rfl (lv_at hl 0 rfl) ?_
  refine lv_aload_n hx hb dX4_become_113 rfl (lv_at hl 1 rfl) ?_
  refine va_get (D := D) (ci := 3) (v := .int (I2 11)) (C := RX4) (T := TX4) (N := 18) hx hb hts in_X4 hown hg.1 hP 5 rfl rfl 11 (Nat.le_of_ble_eq_true rfl) (hts _ q255) (fun _ h9 => h9) rfl dX4_become_114 ?_
  refine lv_topi (fun x12 ex12 => ?_)
  refine va_put (D := D) (ci := 3) (v := .int x12) (C := RX4) (T := TX4) (N := 18) hx hb hts in_X4 tyX4 tyX4_ok nmX4 hown hg.1 hP hD hS 0 rfl rfl 11 (Nat.le_of_ble_eq_true rfl) (hts _ q255) (fun _ h9 => h9) rfl ftX4_11 rfl rfl (Nat.le_of_ble_eq_true rfl) dX4_become_117 (fun H locs hP hD hS => ?_)
  replace hP : va_P D vwCl [(st, eST sr (upd (upd (upd (upd (upd (upd (upd (upd I 4 x5) 5 x6) 6 x7) 7 x8) 8 x9) 9 x10) 10 x11) 11 x12) L), ((sr 0), aI k 5 f1), ((sr 1), aI k 5 f2), ((sr 2), aI k 5 f3), ((sr 3), aI k 5 f4), (s2, eST sr2 I2 L2), ((sr2 0), aI k 5 g0), ((sr2 1), aI k 5 g1), ((sr2 2), aI k 5 g2), ((sr2 3), aI k 5 g3)] H := hP
  replace hD : va_D A [(st, eST sr (upd (upd (upd (upd (upd (upd (upd (upd I 4 x5) 5 x6) 6 x7) 7 x8) 8 x9) 9 x10) 10 x11) 11 x12) L), ((sr 0), aI k 5 f1), ((sr 1), aI k 5 f2), ((sr 2), aI k 5 f3), ((sr 3), aI k 5 f4), (s2, eST sr2 I2 L2), ((sr2 0), aI k 5 g0), ((sr2 1), aI k 5 g1), ((sr2 2), aI k 5 g2), ((sr2 3), aI k 5 g3)] := hD
  refine lv_aload_n hx hb dX4_become_120 rfl (lv_at hl 0 rfl) ?_
  refine lv_aload_n hx hb dX4_become_121 rfl (lv_at hl 1 rfl) ?_
  refine va_get (D := D) (ci := 3) (v := .int (I2 12)) (C := RX4) (T := TX4) (N := 18) hx hb hts in_X4 hown hg.1 hP 5 rfl rfl 12 (Nat.le_of_ble_eq_true rfl) (hts _ q257) (fun _ h9 => h9) rfl dX4_become_122 ?_
  refine lv_topi (fun x13 ex13 => ?_)
  refine va_put (D := D) (ci := 3) (v := .int x13) (C := RX4) (T := TX4) (N := 18) hx hb hts in_X4 tyX4 tyX4_ok nmX4 hown hg.1 hP hD hS 0 rfl rfl 12 (Nat.le_of_ble_eq_true rfl) (hts _ q257) (fun _ h9 => h9) rfl ftX4_12 rfl rfl (Nat.le_of_ble_eq_true rfl) dX4_become_125 (fun H locs hP hD hS => ?_)
  replace hP : va_P D vwCl [(st, eST sr (upd (upd (upd (upd (upd (upd (upd (upd (upd I 4 x5) 5 x6) 6 x7) 7 x8) 8 x9) 9 x10) 10 x11) 11 x12) 12 x13) L), ((sr 0), aI k 5 f1), ((sr 1), aI k 5 f2), ((sr 2), aI k 5 f3), ((sr 3), aI k 5 f4), (s2, eST sr2 I2 L2), ((sr2 0), aI k 5 g0), ((sr2 1), aI k 5 g1), ((sr2 2), aI k 5 g2), ((sr2 3), aI k 5 g3)] H := hP
  replace hD : va_D A [(st, eST sr (upd (upd (upd (upd (upd (upd (upd (upd (upd I 4 x5) 5 x6) 6 x7) 7 x8) 8 x9) 9 x10) 10 x11) 11 x12) 12 x13) L), ((sr 0), aI k 5 f1), ((sr 1), aI k 5 f2), ((sr 2), aI k 5 f3), ((sr 3), aI k 5 f4), (s2, eST sr2 I2 L2), ((sr2 0), aI k 5 g0), ((sr2 1), aI k 5 g1), ((sr2 2), aI k 5 g2), ((sr2 3), aI k 5 g3)] := hD
  refine lv_aload_n hx hb dX4_become_128 rfl (lv_at hl 0 rfl) ?_
  refine lv_aload_n hx hb dX4_become_129 rfl (lv_at hl 1 rfl) ?_
  refine va_get (D := D) (ci := 3) (v := .int (I2 13)) (C := RX4) (T := TX4) (N := 18) hx hb hts in_X4 hown hg.1 hP 5 rfl rfl 13 (Nat.le_of_ble_eq_true rfl) (hts _ q259) (fun _ h9 => h9) rfl dX4_become_130 ?_
  refine lv_topi (fun x14 ex14 => ?_)
  refine va_put (D := D) (ci := 3) (v := .int x14) (C := RX4) (T := TX4) (N := 18) hx hb hts in_X4 tyX4 tyX4_ok nmX4 hown hg.1 hP hD hS 0 rfl rfl 13 (Nat.le_of_ble_eq_true rfl) (hts _ q259) (fun _ h9 => h9) rfl ftX4_13 rfl rfl (Nat.le_of_ble_eq_true rfl) dX4_become_133 (fun H locs hP hD hS => ?_)
  replace hP : va_P D vwCl [(st, eST sr (upd (upd (upd (upd (upd (upd (upd (upd (upd (upd I 4 x5) 5 x6) 6 x7) 7 x8) 8 x9) 9 x10) 10 x11) 11 x12) 12 x13) 13 x14) L), ((sr 0), aI k 5 f1), ((sr 1), aI k 5 f2), ((sr 2), aI k 5 f3), ((sr 3), aI k 5 f4), (s2, eST sr2 I2 L2), ((sr2 0), aI k 5 g0), ((sr2 1), aI k 5 g1), ((sr2 2), aI k 5 g2), ((sr2 3), aI k 5 g3)] H := hP
  replace hD : va_D A [(st, eST sr (upd (upd (upd (upd (upd (upd (upd (upd (upd (upd I 4 x5) 5 x6) 6 x7) 7 x8) 8 x9) 9 x10) 10 x11) 11 x12) 12 x13) 13 x14) L), ((sr 0), aI k 5 f1), ((sr 1), aI k 5 f2), ((sr 2), aI k 5 f3), ((sr 3), aI k 5 f4), (s2, eST sr2 I2 L2), ((sr2 0), aI k 5 g0), ((sr2 1), aI k 5 g1), ((sr2 2), aI k 5 g2), ((sr2 3), aI k 5 g3)] := hD
  refine lv_aload_n hx hb dX4_become_136 rfl (lv_at hl 0 rfl) ?_
  refine lv_aload_n hx hb dX4_become_137 rfl (lv_at hl 1 rfl) ?_
  refine va_get (D := D) (ci := 3) (v := .int (I2 14)) (C := RX4) (T := TX4) (N := 18) hx hb hts in_X4 hown hg.1 hP 5 rfl rfl 14 (Nat.le_of_ble_eq_true rfl) (hts _ q261) (fun _ h9 => h9) rfl dX4_become_138 ?_
  refine lv_topi (fun x15 ex15 => ?_)
  refine va_put (D := D) (ci := 3) (v := .int x15) (C := RX4) (T := TX4) (N := 18) hx hb hts in_X4 tyX4 tyX4_ok nmX4 hown hg.1 hP hD hS 0 rfl rfl 14 (Nat.le_of_ble_eq_true rfl) (hts _ q261) (fun _ h9 => h9) rfl ftX4_14 rfl rfl (Nat.le_of_ble_eq_true rfl) dX4_become_141 (fun H locs hP hD hS => ?_)
  replace hP : va_P D vwCl [(st, eST sr (upd (upd (upd (upd (upd (upd (upd (upd (upd (upd (upd I 4 x5) 5 x6) 6 x7) 7 x8) 8 x9) 9 x10) 10 x11) 11 x12) 12 x13) 13 x14) 14 x15) L), ((sr 0), aI k 5 f1), ((sr 1), aI k 5 f2), ((sr 2), aI k 5 f3), ((sr 3), aI k 5 f4), (s2, eST sr2 I2 L2), ((sr2 0), aI k 5 g0), ((sr2 1), aI k 5 g1), ((sr2 2), aI k 5 g2), ((sr2 3), aI k 5 g3)] H := hP
  replace hD : va_D A [(st, eST sr (upd (upd (upd (upd (upd (upd (upd (upd (upd (upd (upd I 4 x5) 5 x6) 6 x7) 7 x8) 8 x9) 9 x10) 10 x11) 11 x12) 12 x13) 13 x14) 14 x15) L), ((sr 0), aI k 5 f1), ((sr 1), aI k 5 f2), ((sr 2), aI k 5 f3), ((sr 3), aI k 5 f4), (s2, eST sr2 I2 L2), ((sr2 0), aI k 5 g0), ((sr2 1), aI k 5 g1), ((sr2 2), aI k 5 g2), ((sr2 3), aI k 5 g3)] := hD
  refine lv_aload_n hx hb dX4_become_144 rfl (lv_at hl 0 rfl) ?_
  refine lv_aload_n hx hb dX4_become_145 rfl (lv_at hl 1 rfl) ?_
  refine va_get (D := D) (ci := 3) (v := .int (I2 15)) (C := RX4) (T := TX4) (N := 18) hx hb hts in_X4 hown hg.1 hP 5 rfl rfl 15 (Nat.le_of_ble_eq_true rfl) (hts _ q263) (fun _ h9 => h9) rfl dX4_become_146 ?_
  refine lv_topi (fun x16 ex16 => ?_)
  refine va_put (D := D) (ci := 3) (v := .int x16) (C := RX4) (T := TX4) (N := 18) hx hb hts in_X4 tyX4 tyX4_ok nmX4 hown hg.1 hP hD hS 0 rfl rfl 15 (Nat.le_of_ble_eq_true rfl) (hts _ q263) (fun _ h9 => h9) rfl ftX4_15 rfl rfl (Nat.le_of_ble_eq_true rfl) dX4_become_149 (fun H locs hP hD hS => ?_)
  replace hP : va_P D vwCl [(st, eST sr (upd (upd (upd (upd (upd (upd (upd (upd (upd (upd (upd (upd I 4 x5) 5 x6) 6 x7) 7 x8) 8 x9) 9 x10) 10 x11) 11 x12) 12 x13) 13 x14) 14 x15) 15 x16) L), ((sr 0), aI k 5 f1), ((sr 1), aI k 5 f2), ((sr 2), aI k 5 f3), ((sr 3), aI k 5 f4), (s2, eST sr2 I2 L2), ((sr2 0), aI k 5 g0), ((sr2 1), aI k 5 g1), ((sr2 2), aI k 5 g2), ((sr2 3), aI k 5 g3)] H := hP
  replace hD : va_D A [(st, eST sr (upd (upd (upd (upd (upd (upd (upd (upd (upd (upd (upd (upd I 4 x5) 5 x6) 6 x7) 7 x8) 8 x9) 9 x10) 10 x11) 11 x12) 12 x13) 13 x14) 14 x15) 15 x16) L), ((sr 0), aI k 5 f1), ((sr 1), aI k 5 f2), ((sr 2), aI k 5 f3), ((sr 3), aI k 5 f4), (s2, eST sr2 I2 L2), ((sr2 0), aI k 5 g0), ((sr2 1), aI k 5 g1), ((sr2 2), aI k 5 g2), ((sr2 3), aI k 5 g3)] := hD
  refine lv_aload_n hx hb dX4_become_152 rfl (lv_at hl 0 rfl) ?_
  refine lv_aload_n hx hb dX4_become_153 rfl (lv_at hl 1 rfl) ?_
  refine va_get (D := D) (ci := 3) (v := .long (L2 16)) (C := RX4) (T := TX4) (N := 18) hx hb hts in_X4 hown hg.1 hP 5 rfl rfl 16 (Nat.le_of_ble_eq_true rfl) (hts _ q265) (fun _ h9 => h9) rfl dX4_become_154 ?_
  refine lv_topl (fun x17 ex17 => ?_)
  refine va_put (D := D) (ci := 3) (v := .long x17) (C := RX4) (T := TX4) (N := 18) hx hb hts in_X4 tyX4 tyX4_ok nmX4 hown hg.1 hP hD hS 0 rfl rfl 16 (Nat.le_of_ble_eq_true rfl) (hts _ q265) (fun _ h9 => h9) rfl ftX4_16 rfl rfl (Nat.le_of_ble_eq_true rfl) dX4_become_157 (fun H locs hP hD hS => ?_)
  replace hP : va_P D vwCl [(st, eST sr (upd (upd (upd (upd (upd (upd (upd (upd (upd (upd (upd (upd I 4 x5) 5 x6) 6 x7) 7 x8) 8 x9) 9 x10) 10 x11) 11 x12) 12 x13) 13 x14) 14 x15) 15 x16) (vp_updL L 16 x17)), ((sr 0), aI k 5 f1), ((sr 1), aI k 5 f2), ((sr 2), aI k 5 f3), ((sr 3), aI k 5 f4), (s2, eST sr2 I2 L2), ((sr2 0), aI k 5 g0), ((sr2 1), aI k 5 g1), ((sr2 2), aI k 5 g2), ((sr2 3), aI k 5 g3)] H := hP
  replace hD : va_D A [(st, eST sr (upd (upd (upd (upd (upd (upd (upd (upd (upd (upd (upd (upd I 4 x5) 5 x6) 6 x7) 7 x8) 8 x9) 9 x10) 10 x11) 11 x12) 12 x13) 13 x14) 14 x15) 15 x16) (vp_updL L 16 x17)), ((sr 0), aI k 5 f1), ((sr 1), aI k 5 f2), ((sr 2), aI k 5 f3), ((sr 3), aI k 5 f4), (s2, eST sr2 I2 L2), ((sr2 0), aI k 5 g0), ((sr2 1), aI k 5 g1), ((sr2 2), aI k 5 g2), ((sr2 3), aI k 5 g3)] := hD
  refine lv_aload_n hx hb dX4_become_160 rfl (lv_at hl 0 rfl) ?_
  refine lv_aload_n hx hb dX4_become_161 rfl (lv_at hl 1 rfl) ?_
  refine va_get (D := D) (ci := 3) (v := .int (I2 17)) (C := RX4) (T := TX4) (N := 18) hx hb hts in_X4 hown hg.1 hP 5 rfl rfl 17 (Nat.le_of_ble_eq_true rfl) (hts _ q267) (fun _ h9 => h9) rfl dX4_become_162 ?_
  refine lv_topi (fun x18 ex18 => ?_)
  refine va_put (D := D) (ci := 3) (v := .int x18) (C := RX4) (T := TX4) (N := 18) hx hb hts in_X4 tyX4 tyX4_ok nmX4 hown hg.1 hP hD hS 0 rfl rfl 17 (Nat.le_of_ble_eq_true rfl) (hts _ q267) (fun _ h9 => h9) rfl ftX4_17 (x01n (by rw [ex18]; exact hst2)) (x01f (by rw [ex18]; exact hst2)) (Nat.le_of_ble_eq_true rfl) dX4_become_165 (fun H locs hP hD hS => ?_)
  replace hP : va_P D vwCl [(st, eST sr (upd (upd (upd (upd (upd (upd (upd (upd (upd (upd (upd (upd (upd I 4 x5) 5 x6) 6 x7) 7 x8) 8 x9) 9 x10) 10 x11) 11 x12) 12 x13) 13 x14) 14 x15) 15 x16) 17 x18) (vp_updL L 16 x17)), ((sr 0), aI k 5 f1), ((sr 1), aI k 5 f2), ((sr 2), aI k 5 f3), ((sr 3), aI k 5 f4), (s2, eST sr2 I2 L2), ((sr2 0), aI k 5 g0), ((sr2 1), aI k 5 g1), ((sr2 2), aI k 5 g2), ((sr2 3), aI k 5 g3)] H := hP
  replace hD : va_D A [(st, eST sr (upd (upd (upd (upd (upd (upd (upd (upd (upd (upd (upd (upd (upd I 4 x5) 5 x6) 6 x7) 7 x8) 8 x9) 9 x10) 10 x11) 11 x12) 12 x13) 13 x14) 14 x15) 15 x16) 17 x18) (vp_updL L 16 x17)), ((sr 0), aI k 5 f1), ((sr 1), aI k 5 f2), ((sr 2), aI k 5 f3), ((sr 3), aI k 5 f4), (s2, eST sr2 I2 L2), ((sr2 0), aI k 5 g0), ((sr2 1), aI k 5 g1), ((sr2 2), aI k 5 g2), ((sr2 3), aI k 5 g3)] := hD
  exact xret_v hx hb hr hlocks (Nat.le_of_ble_eq_true rfl) (Nat.le_of_ble_eq_true rfl) hS.2.2 dX4_become_168 (fun t ht => ⟨⟨(x5, x6, x7, x8, x9, x10, x11, x12, x13, x14, x15, x16, x17, x18, f1, f2, f3, f4), rfl, ⟨(by subst ex18; subst ex17; subst ex16; subst ex15; subst ex14; subst ex13; subst ex12; subst ex11; subst ex10; subst ex9; subst ex8; subst ex7; subst ex6; subst ex5; subst ef4; subst ef3; subst ef2; subst ef1; exact rfl), (by rw [ex18]; exact hst2)⟩, by rw [ht]; exact hP, hD⟩, hS.F ht⟩)

def f_X4_digs_l2  (i1 : Nat) (X1 : (Int32) × (Nat → Int32)) : (Int32) × (Nat → Int32) :=
  let x14 := (if (((X1.2 i1) / 10) + 1) < (X1.2 i1) then (((X1.2 i1) / 10) + 1) else (X1.2 i1))
  let x15 := ((X1.2 i1) - x14)
  let f16 := upd X1.2 i1 x15
  let x17 := (X1.1 + x14)
  (x17, f16)
def f_X4_digs (I : Nat → Int32) (h0 : Nat → Int32) (nS : Nat) : Int32 × (Nat → Int32) :=
  let X1 := itN (f_X4_digs_l2) nS ((I 5), h0)
  (X1.1, X1.2)
abbrev q_X4_digs (D : va_G) (k : KK) (st : Nat) (sr : Nat → Nat) (I : Nat → Int32) (L : Nat → Int64) (h0 : Nat → Int32) (h1 : Nat → Int32) (h2 : Nat → Int32) (h3 : Nat → Int32) (wa : Nat) (wd : WAd) (WI : Nat → Int32) (pr : Nat → Int32) (SI : Nat → Nat → Int32) (OI : Nat → Nat → Int32) (tn : Nat → Nat → Int32) (nS : Nat) (nO : Nat) (A : Nat → Prop) : Array Value → State → Outcome → State → Prop := va_Qv (fun (u : Int32 × (Nat → Int32)) => u = f_X4_digs I h0 nS) (bx D (fun u => [(st, eST sr (upd I 5 u.1) L), ((sr 0), aI k 5 u.2), ((sr 1), aI k 5 h1), ((sr 2), aI k 5 h2), ((sr 3), aI k 5 h3)]) A) A
abbrev rm_X4_digs : Room := { frames := 2, cells := 0, slots := 0, locals := 80 }
theorem xo_X4_digs : xok yX4_digs 1 := by unfold xok; decide +kernel
set_option maxHeartbeats 8000000 in
theorem m_X4_digs (l : Launch) (D : va_G) (k : KK) (sz : Nat) (st : Nat) (sr : Nat → Nat) (I : Nat → Int32) (L : Nat → Int64) (h0 : Nat → Int32) (h1 : Nat → Int32) (h2 : Nat → Int32) (h3 : Nat → Int32) (wa : Nat) (wd : WAd) (WI : Nat → Int32) (pr : Nat → Int32) (SI : Nat → Nat → Int32) (OI : Nat → Nat → Int32) (tn : Nat → Nat → Int32) (nS : Nat) (nO : Nat) (hnS : WI 3 = nI nS) (hnO : WI 4 = nI nO) (hS2 : 2 ≤ nS) (hS5 : nS ≤ 5) (hO4 : nO ≤ 4) : Met l yX4_digs (ws_ yX4_digs cX4_digs 4 none) rm_X4_digs (pcx D k [.ref st, .ref wa] sz [(st, eST sr I L), ((sr 0), aI k 5 h0), ((sr 1), aI k 5 h1), ((sr 2), aI k 5 h2), ((sr 3), aI k 5 h3)] (wkY D k wa wd WI pr SI OI tn nS nO (va_A [(st, eST sr I L), ((sr 0), aI k 5 h0), ((sr 1), aI k 5 h1), ((sr 2), aI k 5 h2), ((sr 3), aI k 5 h3)] sz))) (q_X4_digs D k st sr I L h0 h1 h2 h3 wa wd WI pr SI OI tn nS nO (va_A [(st, eST sr I L), ((sr 0), aI k 5 h0), ((sr 1), aI k 5 h1), ((sr 2), aI k 5 h2), ((sr 3), aI k 5 h3)] sz)) 0 0 (va_A [(st, eST sr I L), ((sr 0), aI k 5 h0), ((sr 1), aI k 5 h1), ((sr 2), aI k 5 h2), ((sr 3), aI k 5 h3)] sz) := by
  refine Met.start (Qc := q_X4_digs D k st sr I L h0 h1 h2 h3 wa wd WI pr SI OI tn nS nO) (by decide) (Nat.le_of_ble_eq_true rfl) ?_
  intro p e s m below meth c A hx hb hr hlocks hml hown hin hts hg hP hD hA hAn hS hY hsz ls hl
  have hown : s.vm.findClass RX4 = some m.cls := hown
  have hl : lv_has ls 4 [(0, .ref st), (1, .ref wa)] := hl
  have hW := wkY.mono hY hAn
  refine lv_iconst (v := 0) hx hb dX4_digs_0 ci_0 ?_
  refine lv_istore_n (lv' := [(2, .int 0), (0, .ref st), (1, .ref wa)]) hx hb dX4_digs_1 rfl hl (Nat.le_of_ble_eq_true rfl) rfl (fun ls hl => ?_)
  have loop1 : ∀ (n1 i1 : Nat) (X1 : (Int32) × (Nat → Int32)) (H : Heap) (locs : List Loc) (ls : Array Slot), i1 + n1 = nS → X1 = itN (f_X4_digs_l2) i1 ((I 5), h0) → va_P D vwCl [(st, eST sr (upd I 5 X1.1) L), ((sr 0), aI k 5 X1.2), ((sr 1), aI k 5 h1), ((sr 2), aI k 5 h2), ((sr 3), aI k 5 h3)] H → va_D A [(st, eST sr (upd I 5 X1.1) L), ((sr 0), aI k 5 X1.2), ((sr 1), aI k 5 h1), ((sr 2), aI k 5 h2), ((sr 3), aI k 5 h3)] → va_S A s.heap H locs → lv_has ls 4 [(2, .int (nI i1)), (0, .ref st), (1, .ref wa)] → W p l e rm_X4_digs s m ([.ref st, .ref wa] : List Value).toArray below meth c H locs 0 0 (MQ below (q_X4_digs D k st sr I L h0 h1 h2 h3 wa wd WI pr SI OI tn nS nO A) ([.ref st, .ref wa] : List Value).toArray s 0 0 A) (F0 m 2 ls []) := by
    intro n1
    induction n1 with
    | zero =>
      intro i1 X1 H locs ls hn1 eX1 hP hD hS hl
      have hi1 : i1 = nS := by omega
      rw [hi1] at eX1
      refine lv_iload_n hx hb dX4_digs_2 rfl (lv_at hl 0 rfl) ?_
      refine lv_aload_n hx hb dX4_digs_3 rfl (lv_at hl 2 rfl) ?_
      refine va_get (D := D) (ci := 7) (v := .int (WI 3)) (C := RX9) (T := TX9) (N := 13) hx hb hts in_X9 hown hg.1 (wkat hW hS).1 0 rfl rfl 3 (Nat.le_of_ble_eq_true rfl) (hts _ q502) (fun _ h9 => h9) rfl dX4_digs_4 ?_
      refine lv_icmp_ge (tgt := 57) hx hb dX4_digs_7 (by decide) (fun _ => ?_) (fun c => absurd (xle_t hnS rfl (by omega) (by omega)) c)
      exact xret_v hx hb hr hlocks (Nat.le_of_ble_eq_true rfl) (Nat.le_of_ble_eq_true rfl) hS.2.2 dX4_digs_57 (fun t ht => ⟨⟨(X1.1, X1.2), rfl, (by subst eX1; exact rfl), by rw [ht]; exact hP, hD⟩, hS.F ht⟩)
    | succ n1 ih1 =>
      intro i1 X1 H locs ls hn1 eX1 hP hD hS hl
      have hi1 : i1 < nS := by omega
      refine lv_iload_n hx hb dX4_digs_2 rfl (lv_at hl 0 rfl) ?_
      refine lv_aload_n hx hb dX4_digs_3 rfl (lv_at hl 2 rfl) ?_
      refine va_get (D := D) (ci := 7) (v := .int (WI 3)) (C := RX9) (T := TX9) (N := 13) hx hb hts in_X9 hown hg.1 (wkat hW hS).1 0 rfl rfl 3 (Nat.le_of_ble_eq_true rfl) (hts _ q502) (fun _ h9 => h9) rfl dX4_digs_4 ?_
      refine lv_icmp_ge (tgt := 57) hx hb dX4_digs_7 (by decide) (fun c => absurd c (xle_f hnS rfl (by omega) (by omega))) (fun _ => ?_)
      refine lv_aload_n hx hb dX4_digs_10 rfl (lv_at hl 1 rfl) ?_
      refine va_get (D := D) (ci := 3) (v := .ref (sr 0)) (C := RX4) (T := TX4) (N := 18) hx hb hts in_X4 hown hg.1 hP 0 rfl rfl 0 (Nat.le_of_ble_eq_true rfl) (hts _ q233) (fun _ h9 => h9) rfl dX4_digs_11 ?_
      refine lv_iload_n hx hb dX4_digs_14 rfl (lv_at hl 0 rfl) ?_
      refine xa_iald hx hb hg hP 1 rfl rfl (by first | omega | exact Nat.lt_of_lt_of_le (Nat.mod_lt _ (by omega)) (by omega)) (by omega) dX4_digs_15 ?_
      refine lv_aload_n hx hb dX4_digs_16 rfl (lv_at hl 1 rfl) ?_
      refine va_get (D := D) (ci := 3) (v := .ref (sr 0)) (C := RX4) (T := TX4) (N := 18) hx hb hts in_X4 hown hg.1 hP 0 rfl rfl 0 (Nat.le_of_ble_eq_true rfl) (hts _ q233) (fun _ h9 => h9) rfl dX4_digs_17 ?_
      refine lv_iload_n hx hb dX4_digs_20 rfl (lv_at hl 0 rfl) ?_
      refine xa_iald hx hb hg hP 1 rfl rfl (by first | omega | exact Nat.lt_of_lt_of_le (Nat.mod_lt _ (by omega)) (by omega)) (by omega) dX4_digs_21 ?_
      refine lv_bipush (v := 10) hx hb dX4_digs_22 cb_10 ?_
      refine lv_idiv hx hb dX4_digs_24 (by decide) ?_
      refine lv_iconst (v := 1) hx hb dX4_digs_25 ci_1 ?_
      refine lv_iadd hx hb dX4_digs_26 ?_
      refine va_mmin hx hb (by rw [hml]; exact hl.1.symm) hown (hts _ q927) (hts _ q921) (hts _ q104) (hts _ q922) (Nat.le_of_ble_eq_true rfl) (Nat.le_of_ble_eq_true rfl) (Nat.le_of_ble_eq_true rfl) (Nat.le_of_ble_eq_true rfl) dX4_digs_27 ?_
      refine lv_topi (fun x14 ex14 => ?_)
      refine lv_istore_n (lv' := [(3, .int x14), (2, .int (nI i1)), (0, .ref st), (1, .ref wa)]) hx hb dX4_digs_30 rfl hl (Nat.le_of_ble_eq_true rfl) rfl (fun ls hl => ?_)
      refine lv_aload_n hx hb dX4_digs_31 rfl (lv_at hl 2 rfl) ?_
      refine va_get (D := D) (ci := 3) (v := .ref (sr 0)) (C := RX4) (T := TX4) (N := 18) hx hb hts in_X4 hown hg.1 hP 0 rfl rfl 0 (Nat.le_of_ble_eq_true rfl) (hts _ q233) (fun _ h9 => h9) rfl dX4_digs_32 ?_
      refine lv_iload_n hx hb dX4_digs_35 rfl (lv_at hl 1 rfl) ?_
      refine lv_dup2_11 hx hb dX4_digs_36 rfl rfl ?_
      refine xa_iald hx hb hg hP 1 rfl rfl (by first | omega | exact Nat.lt_of_lt_of_le (Nat.mod_lt _ (by omega)) (by omega)) (by omega) dX4_digs_37 ?_
      refine lv_iload_n hx hb dX4_digs_38 rfl (lv_at hl 0 rfl) ?_
      refine lv_isub hx hb dX4_digs_39 ?_
      refine lv_topi (fun x15 ex15 => ?_)
      refine xa_iast hx hb hg hP hD hS 1 rfl rfl (by omega) (by omega) dX4_digs_40 (fun f16 H locs ef16 hP hD hS => ?_)
      replace hP : va_P D vwCl [(st, eST sr (upd I 5 X1.1) L), ((sr 0), aI k 5 f16), ((sr 1), aI k 5 h1), ((sr 2), aI k 5 h2), ((sr 3), aI k 5 h3)] H := hP
      replace hD : va_D A [(st, eST sr (upd I 5 X1.1) L), ((sr 0), aI k 5 f16), ((sr 1), aI k 5 h1), ((sr 2), aI k 5 h2), ((sr 3), aI k 5 h3)] := hD
      refine lv_aload_n hx hb dX4_digs_41 rfl (lv_at hl 2 rfl) ?_
      refine lv_dup hx hb dX4_digs_42 rfl ?_
      refine va_get (D := D) (ci := 3) (v := .int X1.1) (C := RX4) (T := TX4) (N := 18) hx hb hts in_X4 hown hg.1 hP 0 rfl rfl 5 (Nat.le_of_ble_eq_true rfl) (hts _ q243) (fun _ h9 => h9) rfl dX4_digs_43 ?_
      refine lv_iload_n hx hb dX4_digs_46 rfl (lv_at hl 0 rfl) ?_
      refine lv_iadd hx hb dX4_digs_47 ?_
      refine lv_topi (fun x17 ex17 => ?_)
      refine va_put (D := D) (ci := 3) (v := .int x17) (C := RX4) (T := TX4) (N := 18) hx hb hts in_X4 tyX4 tyX4_ok nmX4 hown hg.1 hP hD hS 0 rfl rfl 5 (Nat.le_of_ble_eq_true rfl) (hts _ q243) (fun _ h9 => h9) rfl ftX4_5 rfl rfl (Nat.le_of_ble_eq_true rfl) dX4_digs_48 (fun H locs hP hD hS => ?_)
      replace hP : va_P D vwCl [(st, eST sr (upd I 5 x17) L), ((sr 0), aI k 5 f16), ((sr 1), aI k 5 h1), ((sr 2), aI k 5 h2), ((sr 3), aI k 5 h3)] H := hP
      replace hD : va_D A [(st, eST sr (upd I 5 x17) L), ((sr 0), aI k 5 f16), ((sr 1), aI k 5 h1), ((sr 2), aI k 5 h2), ((sr 3), aI k 5 h3)] := hD
      refine lv_iinc (v := (nI (i1 + 1))) (lv' := [(2, .int (nI (i1 + 1))), (3, .int x14), (0, .ref st), (1, .ref wa)]) hx hb dX4_digs_51 hl (k := 1) rfl (xinc1 _) (Nat.le_of_ble_eq_true rfl) rfl (fun ls hl => ?_)
      refine lv_goto (tgt := 2) hx hb dX4_digs_54 (by decide) ?_
      exact ih1 (i1 + 1) (x17, f16) _ _ _ (by omega) (Eq.trans (by subst ex17; subst ef16; subst ex15; subst ex14; exact rfl) (congrArg (f_X4_digs_l2 i1) eX1)) hP hD hS (lv_sub hl [0, 2, 3] rfl)
  exact loop1 nS 0 ((I 5), h0) _ _ _ (by omega) rfl hP hD hS (by have h := (lv_sub hl [0, 1, 2] rfl); exact h)

def f_X4_comes_j4 (I : Nat → Int32) (ore : Nat) (J : Nat → Int32) (tn : Nat → Nat → Int32) (i1 : Nat) : (Int32) :=
  if (I 17) = 0 then
    ((J 0) * ((tn ore) i1))
  else
    0
def f_X4_comes_l18 (I : Nat → Int32) (ore : Nat) (J : Nat → Int32) (tn : Nat → Nat → Int32) (i1 : Nat) (X1 : (Int32) × (Int32) × (Nat → Int32) × (Nat → Int32) × (Nat → Int32)) : (Int32) × (Int32) × (Nat → Int32) × (Nat → Int32) × (Nat → Int32) :=
  let v34 := f_X4_comes_j4 I ore J tn i1
  let x35 := (X1.2.1 + v34)
  let x36 := ((X1.2.2.1 i1) + (v34 + (X1.2.2.2.1 i1)))
  let f37 := upd X1.2.2.1 i1 x36
  let f38 := upd X1.2.2.2.1 i1 0
  let f39 := upd X1.2.2.2.2 i1 0
  let x40 := (X1.1 + (f37 i1))
  (x40, x35, f37, f38, f39)
def f_X4_comes (I : Nat → Int32) (h0 : Nat → Int32) (h1 : Nat → Int32) (h2 : Nat → Int32) (ore : Nat) (J : Nat → Int32) (tn : Nat → Nat → Int32) (nS : Nat) : Int32 × Int32 × (Nat → Int32) × (Nat → Int32) × (Nat → Int32) :=
  let X1 := itN (f_X4_comes_l18 I ore J tn) nS (0, (I 15), h0, h1, h2)
  (X1.1, X1.2.1, X1.2.2.1, X1.2.2.2.1, X1.2.2.2.2)
abbrev q_X4_comes (D : va_G) (k : KK) (st : Nat) (sr : Nat → Nat) (I : Nat → Int32) (L : Nat → Int64) (h0 : Nat → Int32) (h1 : Nat → Int32) (h2 : Nat → Int32) (h3 : Nat → Int32) (ore : Nat) (se : Nat) (J : Nat → Int32) (wa : Nat) (wd : WAd) (WI : Nat → Int32) (pr : Nat → Int32) (SI : Nat → Nat → Int32) (OI : Nat → Nat → Int32) (tn : Nat → Nat → Int32) (nS : Nat) (nO : Nat) (A : Nat → Prop) : Array Value → State → Outcome → State → Prop := va_Qv (fun (u : Int32 × Int32 × (Nat → Int32) × (Nat → Int32) × (Nat → Int32)) => u = f_X4_comes I h0 h1 h2 ore J tn nS) (bx D (fun u => [(st, eST sr (upd (upd I 11 u.1) 15 u.2.1) L), ((sr 0), aI k 5 u.2.2.1), ((sr 1), aI k 5 u.2.2.2.1), ((sr 2), aI k 5 u.2.2.2.2), ((sr 3), aI k 5 h3)]) A) A
abbrev rm_X4_comes : Room := { frames := 2, cells := 0, slots := 0, locals := 80 }
theorem xo_X4_comes : xok yX4_comes 2 := by unfold xok; decide +kernel
set_option maxHeartbeats 8000000 in
theorem m_X4_comes (l : Launch) (D : va_G) (k : KK) (sz : Nat) (st : Nat) (sr : Nat → Nat) (I : Nat → Int32) (L : Nat → Int64) (h0 : Nat → Int32) (h1 : Nat → Int32) (h2 : Nat → Int32) (h3 : Nat → Int32) (ore : Nat) (se : Nat) (J : Nat → Int32) (wa : Nat) (wd : WAd) (WI : Nat → Int32) (pr : Nat → Int32) (SI : Nat → Nat → Int32) (OI : Nat → Nat → Int32) (tn : Nat → Nat → Int32) (nS : Nat) (nO : Nat) (hnS : WI 3 = nI nS) (hnO : WI 4 = nI nO) (hS2 : 2 ≤ nS) (hS5 : nS ≤ 5) (hO4 : nO ≤ 4) (hJ2 : J 2 = nI ore) (hore : ore < nO) : Met l yX4_comes (ws_ yX4_comes cX4_comes 6 none) rm_X4_comes (pcx D k [.ref st, .ref wa, .ref se] sz [(st, eST sr I L), ((sr 0), aI k 5 h0), ((sr 1), aI k 5 h1), ((sr 2), aI k 5 h2), ((sr 3), aI k 5 h3)] (wkZ D k wa wd WI pr SI OI tn nS nO se J (va_A [(st, eST sr I L), ((sr 0), aI k 5 h0), ((sr 1), aI k 5 h1), ((sr 2), aI k 5 h2), ((sr 3), aI k 5 h3)] sz))) (q_X4_comes D k st sr I L h0 h1 h2 h3 ore se J wa wd WI pr SI OI tn nS nO (va_A [(st, eST sr I L), ((sr 0), aI k 5 h0), ((sr 1), aI k 5 h1), ((sr 2), aI k 5 h2), ((sr 3), aI k 5 h3)] sz)) 0 0 (va_A [(st, eST sr I L), ((sr 0), aI k 5 h0), ((sr 1), aI k 5 h1), ((sr 2), aI k 5 h2), ((sr 3), aI k 5 h3)] sz) := by
  refine Met.start (Qc := q_X4_comes D k st sr I L h0 h1 h2 h3 ore se J wa wd WI pr SI OI tn nS nO) (by decide) (Nat.le_of_ble_eq_true rfl) ?_
  intro p e s m below meth c A hx hb hr hlocks hml hown hin hts hg hP hD hA hAn hS hY hsz ls hl
  have hown : s.vm.findClass RX4 = some m.cls := hown
  have hl : lv_has ls 6 [(0, .ref st), (1, .ref wa), (2, .ref se)] := hl
  have hZ := wkZ.mono hY hAn
  have hW := hZ.1
  refine lv_aload_n hx hb dX4_comes_0 rfl (lv_at hl 1 rfl) ?_
  refine va_get (D := D) (ci := 7) (v := .ref (wd.1 1)) (C := RX9) (T := TX9) (N := 13) hx hb hts in_X9 hown hg.1 (wkat hW hS).1 0 rfl rfl 1 (Nat.le_of_ble_eq_true rfl) (hts _ q495) (fun _ h9 => h9) rfl dX4_comes_1 ?_
  refine lv_aload_n hx hb dX4_comes_4 rfl (lv_at hl 2 rfl) ?_
  refine va_get (D := D) (ci := 4) (v := .int (J 2)) (C := RX5) (T := TX5) (N := 3) hx hb hts in_X5 hown hg.1 (wzat hZ hS) 0 rfl rfl 2 (Nat.le_of_ble_eq_true rfl) (hts _ q320) (fun _ h9 => h9) rfl dX4_comes_5 ?_
  refine xa_aald hx hb hg (wkat hW hS).1 2 7 rfl rfl hJ2 (by omega) (by omega) (b := (wd.2.2.2.2.1 ore)) ((wkat hW hS).2.2 ore (by omega)).1 dX4_comes_8 ?_
  refine lv_astore_n (lv' := [(3, .ref (wd.2.2.2.2.1 ore)), (0, .ref st), (1, .ref wa), (2, .ref se)]) hx hb dX4_comes_9 rfl hl (Nat.le_of_ble_eq_true rfl) rfl (fun ls hl => ?_)
  refine lv_aload_n hx hb dX4_comes_10 rfl (lv_at hl 1 rfl) ?_
  refine lv_iconst (v := 0) hx hb dX4_comes_11 ci_0 ?_
  refine va_put (D := D) (ci := 3) (v := .int 0) (C := RX4) (T := TX4) (N := 18) hx hb hts in_X4 tyX4 tyX4_ok nmX4 hown hg.1 hP hD hS 0 rfl rfl 11 (Nat.le_of_ble_eq_true rfl) (hts _ q255) (fun _ h9 => h9) rfl ftX4_11 rfl rfl (Nat.le_of_ble_eq_true rfl) dX4_comes_12 (fun H locs hP hD hS => ?_)
  replace hP : va_P D vwCl [(st, eST sr (upd I 11 0) L), ((sr 0), aI k 5 h0), ((sr 1), aI k 5 h1), ((sr 2), aI k 5 h2), ((sr 3), aI k 5 h3)] H := hP
  replace hD : va_D A [(st, eST sr (upd I 11 0) L), ((sr 0), aI k 5 h0), ((sr 1), aI k 5 h1), ((sr 2), aI k 5 h2), ((sr 3), aI k 5 h3)] := hD
  refine lv_iconst (v := 0) hx hb dX4_comes_15 ci_0 ?_
  refine lv_istore (lv' := [(4, .int 0), (3, .ref (wd.2.2.2.2.1 ore)), (0, .ref st), (1, .ref wa), (2, .ref se)]) hx hb dX4_comes_16 hl (Nat.le_of_ble_eq_true rfl) rfl (fun ls hl => ?_)
  have loop1 : ∀ (n1 i1 : Nat) (X1 : (Int32) × (Int32) × (Nat → Int32) × (Nat → Int32) × (Nat → Int32)) (H : Heap) (locs : List Loc) (ls : Array Slot), i1 + n1 = nS → X1 = itN (f_X4_comes_l18 I ore J tn) i1 (0, (I 15), h0, h1, h2) → va_P D vwCl [(st, eST sr (upd (upd I 11 X1.1) 15 X1.2.1) L), ((sr 0), aI k 5 X1.2.2.1), ((sr 1), aI k 5 X1.2.2.2.1), ((sr 2), aI k 5 X1.2.2.2.2), ((sr 3), aI k 5 h3)] H → va_D A [(st, eST sr (upd (upd I 11 X1.1) 15 X1.2.1) L), ((sr 0), aI k 5 X1.2.2.1), ((sr 1), aI k 5 X1.2.2.2.1), ((sr 2), aI k 5 X1.2.2.2.2), ((sr 3), aI k 5 h3)] → va_S A s.heap H locs → lv_has ls 6 [(4, .int (nI i1)), (3, .ref (wd.2.2.2.2.1 ore)), (0, .ref st), (1, .ref wa), (2, .ref se)] → W p l e rm_X4_comes s m ([.ref st, .ref wa, .ref se] : List Value).toArray below meth c H locs 0 0 (MQ below (q_X4_comes D k st sr I L h0 h1 h2 h3 ore se J wa wd WI pr SI OI tn nS nO A) ([.ref st, .ref wa, .ref se] : List Value).toArray s 0 0 A) (F0 m 18 ls []) := by
    intro n1
    induction n1 with
    | zero =>
      intro i1 X1 H locs ls hn1 eX1 hP hD hS hl
      have hi1 : i1 = nS := by omega
      rw [hi1] at eX1
      refine lv_iload hx hb dX4_comes_18 (lv_at hl 0 rfl) ?_
      refine lv_aload_n hx hb dX4_comes_20 rfl (lv_at hl 3 rfl) ?_
      refine va_get (D := D) (ci := 7) (v := .int (WI 3)) (C := RX9) (T := TX9) (N := 13) hx hb hts in_X9 hown hg.1 (wkat hW hS).1 0 rfl rfl 3 (Nat.le_of_ble_eq_true rfl) (hts _ q502) (fun _ h9 => h9) rfl dX4_comes_21 ?_
      refine lv_icmp_ge (tgt := 121) hx hb dX4_comes_24 (by decide) (fun _ => ?_) (fun c => absurd (xle_t hnS rfl (by omega) (by omega)) c)
      exact xret_v hx hb hr hlocks (Nat.le_of_ble_eq_true rfl) (Nat.le_of_ble_eq_true rfl) hS.2.2 dX4_comes_121 (fun t ht => ⟨⟨(X1.1, X1.2.1, X1.2.2.1, X1.2.2.2.1, X1.2.2.2.2), rfl, (by subst eX1; exact rfl), by rw [ht]; exact hP, hD⟩, hS.F ht⟩)
    | succ n1 ih1 =>
      intro i1 X1 H locs ls hn1 eX1 hP hD hS hl
      have hi1 : i1 < nS := by omega
      refine lv_iload hx hb dX4_comes_18 (lv_at hl 0 rfl) ?_
      refine lv_aload_n hx hb dX4_comes_20 rfl (lv_at hl 3 rfl) ?_
      refine va_get (D := D) (ci := 7) (v := .int (WI 3)) (C := RX9) (T := TX9) (N := 13) hx hb hts in_X9 hown hg.1 (wkat hW hS).1 0 rfl rfl 3 (Nat.le_of_ble_eq_true rfl) (hts _ q502) (fun _ h9 => h9) rfl dX4_comes_21 ?_
      refine lv_icmp_ge (tgt := 121) hx hb dX4_comes_24 (by decide) (fun c => absurd c (xle_f hnS rfl (by omega) (by omega))) (fun _ => ?_)
      refine lv_aload_n hx hb dX4_comes_27 rfl (lv_at hl 2 rfl) ?_
      refine va_get (D := D) (ci := 3) (v := .int (I 17)) (C := RX4) (T := TX4) (N := 18) hx hb hts in_X4 hown hg.1 hP 0 rfl rfl 17 (Nat.le_of_ble_eq_true rfl) (hts _ q267) (fun _ h9 => h9) rfl dX4_comes_28 ?_
      have Jn4 : ∀ (v34 : (Int32)) (H : Heap) (locs : List Loc) (ls : Array Slot), v34 = f_X4_comes_j4 I ore J tn i1 → va_P D vwCl [(st, eST sr (upd (upd I 11 X1.1) 15 X1.2.1) L), ((sr 0), aI k 5 X1.2.2.1), ((sr 1), aI k 5 X1.2.2.2.1), ((sr 2), aI k 5 X1.2.2.2.2), ((sr 3), aI k 5 h3)] H → va_D A [(st, eST sr (upd (upd I 11 X1.1) 15 X1.2.1) L), ((sr 0), aI k 5 X1.2.2.1), ((sr 1), aI k 5 X1.2.2.2.1), ((sr 2), aI k 5 X1.2.2.2.2), ((sr 3), aI k 5 h3)] → va_S A s.heap H locs → lv_has ls 6 [(4, .int (nI i1)), (3, .ref (wd.2.2.2.2.1 ore)), (0, .ref st), (1, .ref wa), (2, .ref se)] → W p l e rm_X4_comes s m ([.ref st, .ref wa, .ref se] : List Value).toArray below meth c H locs 0 0 (MQ below (q_X4_comes D k st sr I L h0 h1 h2 h3 ore se J wa wd WI pr SI OI tn nS nO A) ([.ref st, .ref wa, .ref se] : List Value).toArray s 0 0 A) (F0 m 50 ls [.int v34]) := by
        intro v34 H locs ls ev34 hP hD hS hl
        refine lv_istore (lv' := [(5, .int v34), (4, .int (nI i1)), (3, .ref (wd.2.2.2.2.1 ore)), (0, .ref st), (1, .ref wa), (2, .ref se)]) hx hb dX4_comes_50 hl (Nat.le_of_ble_eq_true rfl) rfl (fun ls hl => ?_)
        refine lv_aload_n hx hb dX4_comes_52 rfl (lv_at hl 3 rfl) ?_
        refine lv_dup hx hb dX4_comes_53 rfl ?_
        refine va_get (D := D) (ci := 3) (v := .int X1.2.1) (C := RX4) (T := TX4) (N := 18) hx hb hts in_X4 hown hg.1 hP 0 rfl rfl 15 (Nat.le_of_ble_eq_true rfl) (hts _ q263) (fun _ h9 => h9) rfl dX4_comes_54 ?_
        refine lv_iload hx hb dX4_comes_57 (lv_at hl 0 rfl) ?_
        refine lv_iadd hx hb dX4_comes_59 ?_
        refine lv_topi (fun x35 ex35 => ?_)
        refine va_put (D := D) (ci := 3) (v := .int x35) (C := RX4) (T := TX4) (N := 18) hx hb hts in_X4 tyX4 tyX4_ok nmX4 hown hg.1 hP hD hS 0 rfl rfl 15 (Nat.le_of_ble_eq_true rfl) (hts _ q263) (fun _ h9 => h9) rfl ftX4_15 rfl rfl (Nat.le_of_ble_eq_true rfl) dX4_comes_60 (fun H locs hP hD hS => ?_)
        replace hP : va_P D vwCl [(st, eST sr (upd (upd I 11 X1.1) 15 x35) L), ((sr 0), aI k 5 X1.2.2.1), ((sr 1), aI k 5 X1.2.2.2.1), ((sr 2), aI k 5 X1.2.2.2.2), ((sr 3), aI k 5 h3)] H := hP
        replace hD : va_D A [(st, eST sr (upd (upd I 11 X1.1) 15 x35) L), ((sr 0), aI k 5 X1.2.2.1), ((sr 1), aI k 5 X1.2.2.2.1), ((sr 2), aI k 5 X1.2.2.2.2), ((sr 3), aI k 5 h3)] := hD
        refine lv_aload_n hx hb dX4_comes_63 rfl (lv_at hl 3 rfl) ?_
        refine va_get (D := D) (ci := 3) (v := .ref (sr 0)) (C := RX4) (T := TX4) (N := 18) hx hb hts in_X4 hown hg.1 hP 0 rfl rfl 0 (Nat.le_of_ble_eq_true rfl) (hts _ q233) (fun _ h9 => h9) rfl dX4_comes_64 ?_
        refine lv_iload hx hb dX4_comes_67 (lv_at hl 1 rfl) ?_
        refine lv_dup2_11 hx hb dX4_comes_69 rfl rfl ?_
        refine xa_iald hx hb hg hP 1 rfl rfl (by first | omega | exact Nat.lt_of_lt_of_le (Nat.mod_lt _ (by omega)) (by omega)) (by omega) dX4_comes_70 ?_
        refine lv_iload hx hb dX4_comes_71 (lv_at hl 0 rfl) ?_
        refine lv_aload_n hx hb dX4_comes_73 rfl (lv_at hl 3 rfl) ?_
        refine va_get (D := D) (ci := 3) (v := .ref (sr 1)) (C := RX4) (T := TX4) (N := 18) hx hb hts in_X4 hown hg.1 hP 0 rfl rfl 1 (Nat.le_of_ble_eq_true rfl) (hts _ q235) (fun _ h9 => h9) rfl dX4_comes_74 ?_
        refine lv_iload hx hb dX4_comes_77 (lv_at hl 1 rfl) ?_
        refine xa_iald hx hb hg hP 2 rfl rfl (by first | omega | exact Nat.lt_of_lt_of_le (Nat.mod_lt _ (by omega)) (by omega)) (by omega) dX4_comes_79 ?_
        refine lv_iadd hx hb dX4_comes_80 ?_
        refine lv_iadd hx hb dX4_comes_81 ?_
        refine lv_topi (fun x36 ex36 => ?_)
        refine xa_iast hx hb hg hP hD hS 1 rfl rfl (by omega) (by omega) dX4_comes_82 (fun f37 H locs ef37 hP hD hS => ?_)
        replace hP : va_P D vwCl [(st, eST sr (upd (upd I 11 X1.1) 15 x35) L), ((sr 0), aI k 5 f37), ((sr 1), aI k 5 X1.2.2.2.1), ((sr 2), aI k 5 X1.2.2.2.2), ((sr 3), aI k 5 h3)] H := hP
        replace hD : va_D A [(st, eST sr (upd (upd I 11 X1.1) 15 x35) L), ((sr 0), aI k 5 f37), ((sr 1), aI k 5 X1.2.2.2.1), ((sr 2), aI k 5 X1.2.2.2.2), ((sr 3), aI k 5 h3)] := hD
        refine lv_aload_n hx hb dX4_comes_83 rfl (lv_at hl 3 rfl) ?_
        refine va_get (D := D) (ci := 3) (v := .ref (sr 1)) (C := RX4) (T := TX4) (N := 18) hx hb hts in_X4 hown hg.1 hP 0 rfl rfl 1 (Nat.le_of_ble_eq_true rfl) (hts _ q235) (fun _ h9 => h9) rfl dX4_comes_84 ?_
        refine lv_iload hx hb dX4_comes_87 (lv_at hl 1 rfl) ?_
        refine lv_iconst (v := 0) hx hb dX4_comes_89 ci_0 ?_
        refine xa_iast hx hb hg hP hD hS 2 rfl rfl (by omega) (by omega) dX4_comes_90 (fun f38 H locs ef38 hP hD hS => ?_)
        replace hP : va_P D vwCl [(st, eST sr (upd (upd I 11 X1.1) 15 x35) L), ((sr 0), aI k 5 f37), ((sr 1), aI k 5 f38), ((sr 2), aI k 5 X1.2.2.2.2), ((sr 3), aI k 5 h3)] H := hP
        replace hD : va_D A [(st, eST sr (upd (upd I 11 X1.1) 15 x35) L), ((sr 0), aI k 5 f37), ((sr 1), aI k 5 f38), ((sr 2), aI k 5 X1.2.2.2.2), ((sr 3), aI k 5 h3)] := hD
        refine lv_aload_n hx hb dX4_comes_91 rfl (lv_at hl 3 rfl) ?_
        refine va_get (D := D) (ci := 3) (v := .ref (sr 2)) (C := RX4) (T := TX4) (N := 18) hx hb hts in_X4 hown hg.1 hP 0 rfl rfl 2 (Nat.le_of_ble_eq_true rfl) (hts _ q237) (fun _ h9 => h9) rfl dX4_comes_92 ?_
        refine lv_iload hx hb dX4_comes_95 (lv_at hl 1 rfl) ?_
        refine lv_iconst (v := 0) hx hb dX4_comes_97 ci_0 ?_
        refine xa_iast hx hb hg hP hD hS 3 rfl rfl (by omega) (by omega) dX4_comes_98 (fun f39 H locs ef39 hP hD hS => ?_)
        replace hP : va_P D vwCl [(st, eST sr (upd (upd I 11 X1.1) 15 x35) L), ((sr 0), aI k 5 f37), ((sr 1), aI k 5 f38), ((sr 2), aI k 5 f39), ((sr 3), aI k 5 h3)] H := hP
        replace hD : va_D A [(st, eST sr (upd (upd I 11 X1.1) 15 x35) L), ((sr 0), aI k 5 f37), ((sr 1), aI k 5 f38), ((sr 2), aI k 5 f39), ((sr 3), aI k 5 h3)] := hD
        refine lv_aload_n hx hb dX4_comes_99 rfl (lv_at hl 3 rfl) ?_
        refine lv_dup hx hb dX4_comes_100 rfl ?_
        refine va_get (D := D) (ci := 3) (v := .int X1.1) (C := RX4) (T := TX4) (N := 18) hx hb hts in_X4 hown hg.1 hP 0 rfl rfl 11 (Nat.le_of_ble_eq_true rfl) (hts _ q255) (fun _ h9 => h9) rfl dX4_comes_101 ?_
        refine lv_aload_n hx hb dX4_comes_104 rfl (lv_at hl 3 rfl) ?_
        refine va_get (D := D) (ci := 3) (v := .ref (sr 0)) (C := RX4) (T := TX4) (N := 18) hx hb hts in_X4 hown hg.1 hP 0 rfl rfl 0 (Nat.le_of_ble_eq_true rfl) (hts _ q233) (fun _ h9 => h9) rfl dX4_comes_105 ?_
        refine lv_iload hx hb dX4_comes_108 (lv_at hl 1 rfl) ?_
        refine xa_iald hx hb hg hP 1 rfl rfl (by first | omega | exact Nat.lt_of_lt_of_le (Nat.mod_lt _ (by omega)) (by omega)) (by omega) dX4_comes_110 ?_
        refine lv_iadd hx hb dX4_comes_111 ?_
        refine lv_topi (fun x40 ex40 => ?_)
        refine va_put (D := D) (ci := 3) (v := .int x40) (C := RX4) (T := TX4) (N := 18) hx hb hts in_X4 tyX4 tyX4_ok nmX4 hown hg.1 hP hD hS 0 rfl rfl 11 (Nat.le_of_ble_eq_true rfl) (hts _ q255) (fun _ h9 => h9) rfl ftX4_11 rfl rfl (Nat.le_of_ble_eq_true rfl) dX4_comes_112 (fun H locs hP hD hS => ?_)
        replace hP : va_P D vwCl [(st, eST sr (upd (upd I 15 x35) 11 x40) L), ((sr 0), aI k 5 f37), ((sr 1), aI k 5 f38), ((sr 2), aI k 5 f39), ((sr 3), aI k 5 h3)] H := hP
        replace hD : va_D A [(st, eST sr (upd (upd I 15 x35) 11 x40) L), ((sr 0), aI k 5 f37), ((sr 1), aI k 5 f38), ((sr 2), aI k 5 f39), ((sr 3), aI k 5 h3)] := hD
        refine lv_iinc (v := (nI (i1 + 1))) (lv' := [(4, .int (nI (i1 + 1))), (5, .int v34), (3, .ref (wd.2.2.2.2.1 ore)), (0, .ref st), (1, .ref wa), (2, .ref se)]) hx hb dX4_comes_115 hl (k := 1) rfl (xinc1 _) (Nat.le_of_ble_eq_true rfl) rfl (fun ls hl => ?_)
        refine lv_goto (tgt := 18) hx hb dX4_comes_118 (by decide) ?_
        exact ih1 (i1 + 1) (x40, x35, f37, f38, f39) _ _ _ (by omega) (Eq.trans (by subst ex40; subst ef39; subst ef38; subst ef37; subst ex36; subst ex35; subst ev34; exact rfl) (congrArg (f_X4_comes_l18 I ore J tn i1) eX1)) hP hD hS (lv_sub hl [0, 2, 3, 4, 5] rfl)
      refine lv_if_eq (tgt := 38) hx hb dX4_comes_31 (by decide) (fun c41 => ?_) (fun c41 => ?_)
      · refine lv_aload_n hx hb dX4_comes_38 rfl (lv_at hl 4 rfl) ?_
        refine va_get (D := D) (ci := 4) (v := .int (J 0)) (C := RX5) (T := TX5) (N := 3) hx hb hts in_X5 hown hg.1 (wzat hZ hS) 0 rfl rfl 0 (Nat.le_of_ble_eq_true rfl) (hts _ q314) (fun _ h9 => h9) rfl dX4_comes_39 ?_
        refine lv_aload_n hx hb dX4_comes_42 rfl (lv_at hl 1 rfl) ?_
        refine va_get (D := D) (ci := 9) (v := .ref ((wd.2.2.2.2.2.2 ore) 2)) (C := RX12) (T := TX12) (N := 3) hx hb hts in_X12 hown hg.1 ((wkat hW hS).2.2 ore (by omega)).2 0 rfl rfl 2 (Nat.le_of_ble_eq_true rfl) (hts _ q841) (fun _ h9 => h9) rfl dX4_comes_43 ?_
        refine lv_iload hx hb dX4_comes_46 (lv_at hl 0 rfl) ?_
        refine xa_iald hx hb hg ((wkat hW hS).2.2 ore (by omega)).2 1 rfl rfl (by first | omega | exact Nat.lt_of_lt_of_le (Nat.mod_lt _ (by omega)) (by omega)) (by omega) dX4_comes_48 ?_
        refine lv_imul hx hb dX4_comes_49 ?_
        exact Jn4 ((J 0) * ((tn ore) i1)) _ _ _ (by exact Eq.symm (Eq.trans (if_pos c41) (rfl))) hP hD hS (lv_sub hl [0, 1, 2, 3, 4] rfl)
      · refine lv_iconst (v := 0) hx hb dX4_comes_34 ci_0 ?_
        refine lv_goto (tgt := 50) hx hb dX4_comes_35 (by decide) ?_
        exact Jn4 0 _ _ _ (by exact Eq.symm (Eq.trans (if_neg c41) (rfl))) hP hD hS (lv_sub hl [0, 1, 2, 3, 4] rfl)
  exact loop1 nS 0 (0, (I 15), h0, h1, h2) _ _ _ (by omega) rfl hP hD hS (by have h := (lv_sub hl [0, 1, 2, 3, 4] rfl); exact h)

def f_X4_effectOf_j1 (x1 : Int32) : (Int32) :=
  if 0 ≤ x1 then
    x1
  else
    (-x1)
def f_X4_effectOf (I : Nat → Int32) (ore : Nat) (WI : Nat → Int32) (OI : Nat → Nat → Int32) : Int32 :=
  let x1 := (((100 * (I 11)) / (WI 6)) - 50)
  let v4 := f_X4_effectOf_j1 x1
  let x5 := (100 - v4)
  let x6 := ((x5 * (if ((WI 10) - (I 8)) < ((WI 10) / 2) then ((WI 10) / 2) else ((WI 10) - (I 8)))) / (WI 10))
  ((x6 * 10) / (9 + ((OI ore) 1)))
abbrev q_X4_effectOf (D : va_G) (k : KK) (st : Nat) (sr : Nat → Nat) (I : Nat → Int32) (L : Nat → Int64) (h0 : Nat → Int32) (h1 : Nat → Int32) (h2 : Nat → Int32) (h3 : Nat → Int32) (ore : Nat) (se : Nat) (J : Nat → Int32) (wa : Nat) (wd : WAd) (WI : Nat → Int32) (pr : Nat → Int32) (SI : Nat → Nat → Int32) (OI : Nat → Nat → Int32) (tn : Nat → Nat → Int32) (nS : Nat) (nO : Nat) (A : Nat → Prop) : Array Value → State → Outcome → State → Prop := va_Qi (fun (r_ : Int32) (u : Int32) => r_ = u ∧ u = f_X4_effectOf I ore WI OI) (bx D (fun u => [(st, eST sr I L), ((sr 0), aI k 5 h0), ((sr 1), aI k 5 h1), ((sr 2), aI k 5 h2), ((sr 3), aI k 5 h3)]) A) A
abbrev rm_X4_effectOf : Room := { frames := 2, cells := 0, slots := 0, locals := 80 }
theorem xo_X4_effectOf : xok yX4_effectOf 2 := by unfold xok; decide +kernel
set_option maxHeartbeats 8000000 in
theorem m_X4_effectOf (l : Launch) (D : va_G) (k : KK) (sz : Nat) (st : Nat) (sr : Nat → Nat) (I : Nat → Int32) (L : Nat → Int64) (h0 : Nat → Int32) (h1 : Nat → Int32) (h2 : Nat → Int32) (h3 : Nat → Int32) (ore : Nat) (se : Nat) (J : Nat → Int32) (wa : Nat) (wd : WAd) (WI : Nat → Int32) (pr : Nat → Int32) (SI : Nat → Nat → Int32) (OI : Nat → Nat → Int32) (tn : Nat → Nat → Int32) (nS : Nat) (nO : Nat) (hnS : WI 3 = nI nS) (hnO : WI 4 = nI nO) (hS2 : 2 ≤ nS) (hS5 : nS ≤ 5) (hO4 : nO ≤ 4) (hJ2 : J 2 = nI ore) (hore : ore < nO) (hroom : ¬ WI 6 = 0) (hlife : ¬ WI 10 = 0) (hhard : ¬ 9 + OI ore 1 = 0) : Met l yX4_effectOf (ws_ yX4_effectOf cX4_effectOf 5 (some .int)) rm_X4_effectOf (pcx D k [.ref st, .ref wa, .ref se] sz [(st, eST sr I L), ((sr 0), aI k 5 h0), ((sr 1), aI k 5 h1), ((sr 2), aI k 5 h2), ((sr 3), aI k 5 h3)] (wkZ D k wa wd WI pr SI OI tn nS nO se J (va_A [(st, eST sr I L), ((sr 0), aI k 5 h0), ((sr 1), aI k 5 h1), ((sr 2), aI k 5 h2), ((sr 3), aI k 5 h3)] sz))) (q_X4_effectOf D k st sr I L h0 h1 h2 h3 ore se J wa wd WI pr SI OI tn nS nO (va_A [(st, eST sr I L), ((sr 0), aI k 5 h0), ((sr 1), aI k 5 h1), ((sr 2), aI k 5 h2), ((sr 3), aI k 5 h3)] sz)) 0 0 (va_A [(st, eST sr I L), ((sr 0), aI k 5 h0), ((sr 1), aI k 5 h1), ((sr 2), aI k 5 h2), ((sr 3), aI k 5 h3)] sz) := by
  refine Met.start (Qc := q_X4_effectOf D k st sr I L h0 h1 h2 h3 ore se J wa wd WI pr SI OI tn nS nO) (by decide) (Nat.le_of_ble_eq_true rfl) ?_
  intro p e s m below meth c A hx hb hr hlocks hml hown hin hts hg hP hD hA hAn hS hY hsz ls hl
  have hown : s.vm.findClass RX4 = some m.cls := hown
  have hl : lv_has ls 5 [(0, .ref st), (1, .ref wa), (2, .ref se)] := hl
  have hZ := wkZ.mono hY hAn
  have hW := hZ.1
  refine lv_bipush (v := 100) hx hb dX4_effectOf_0 cb_100 ?_
  refine lv_aload_n hx hb dX4_effectOf_2 rfl (lv_at hl 0 rfl) ?_
  refine va_get (D := D) (ci := 3) (v := .int (I 11)) (C := RX4) (T := TX4) (N := 18) hx hb hts in_X4 hown hg.1 hP 0 rfl rfl 11 (Nat.le_of_ble_eq_true rfl) (hts _ q255) (fun _ h9 => h9) rfl dX4_effectOf_3 ?_
  refine lv_imul hx hb dX4_effectOf_6 ?_
  refine lv_aload_n hx hb dX4_effectOf_7 rfl (lv_at hl 1 rfl) ?_
  refine va_get (D := D) (ci := 7) (v := .int (WI 6)) (C := RX9) (T := TX9) (N := 13) hx hb hts in_X9 hown hg.1 (wkat hW hS).1 0 rfl rfl 6 (Nat.le_of_ble_eq_true rfl) (hts _ q513) (fun _ h9 => h9) rfl dX4_effectOf_8 ?_
  refine lv_idiv hx hb dX4_effectOf_11 (by first | assumption | omega) ?_
  refine lv_bipush (v := 50) hx hb dX4_effectOf_12 cb_50 ?_
  refine lv_isub hx hb dX4_effectOf_14 ?_
  refine lv_topi (fun x1 ex1 => ?_)
  refine lv_istore_n (lv' := [(3, .int x1), (0, .ref st), (1, .ref wa), (2, .ref se)]) hx hb dX4_effectOf_15 rfl hl (Nat.le_of_ble_eq_true rfl) rfl (fun ls hl => ?_)
  refine lv_bipush (v := 100) hx hb dX4_effectOf_16 cb_100 ?_
  refine lv_iload_n hx hb dX4_effectOf_18 rfl (lv_at hl 0 rfl) ?_
  have Jn1 : ∀ (v4 : (Int32)) (H : Heap) (locs : List Loc) (ls : Array Slot), v4 = f_X4_effectOf_j1 x1 → va_P D vwCl [(st, eST sr I L), ((sr 0), aI k 5 h0), ((sr 1), aI k 5 h1), ((sr 2), aI k 5 h2), ((sr 3), aI k 5 h3)] H → va_D A [(st, eST sr I L), ((sr 0), aI k 5 h0), ((sr 1), aI k 5 h1), ((sr 2), aI k 5 h2), ((sr 3), aI k 5 h3)] → va_S A s.heap H locs → lv_has ls 5 [(3, .int x1), (0, .ref st), (1, .ref wa), (2, .ref se)] → W p l e rm_X4_effectOf s m ([.ref st, .ref wa, .ref se] : List Value).toArray below meth c H locs 0 0 (MQ below (q_X4_effectOf D k st sr I L h0 h1 h2 h3 ore se J wa wd WI pr SI OI tn nS nO A) ([.ref st, .ref wa, .ref se] : List Value).toArray s 0 0 A) (F0 m 28 ls [.int v4, .int 100]) := by
    intro v4 H locs ls ev4 hP hD hS hl
    refine lv_isub hx hb dX4_effectOf_28 ?_
    refine lv_topi (fun x5 ex5 => ?_)
    refine lv_istore (lv' := [(4, .int x5), (3, .int x1), (0, .ref st), (1, .ref wa), (2, .ref se)]) hx hb dX4_effectOf_29 hl (Nat.le_of_ble_eq_true rfl) rfl (fun ls hl => ?_)
    refine lv_iload hx hb dX4_effectOf_31 (lv_at hl 0 rfl) ?_
    refine lv_aload_n hx hb dX4_effectOf_33 rfl (lv_at hl 3 rfl) ?_
    refine va_get (D := D) (ci := 7) (v := .int (WI 10)) (C := RX9) (T := TX9) (N := 13) hx hb hts in_X9 hown hg.1 (wkat hW hS).1 0 rfl rfl 10 (Nat.le_of_ble_eq_true rfl) (hts _ q529) (fun _ h9 => h9) rfl dX4_effectOf_34 ?_
    refine lv_aload_n hx hb dX4_effectOf_37 rfl (lv_at hl 2 rfl) ?_
    refine va_get (D := D) (ci := 3) (v := .int (I 8)) (C := RX4) (T := TX4) (N := 18) hx hb hts in_X4 hown hg.1 hP 0 rfl rfl 8 (Nat.le_of_ble_eq_true rfl) (hts _ q249) (fun _ h9 => h9) rfl dX4_effectOf_38 ?_
    refine lv_isub hx hb dX4_effectOf_41 ?_
    refine lv_aload_n hx hb dX4_effectOf_42 rfl (lv_at hl 3 rfl) ?_
    refine va_get (D := D) (ci := 7) (v := .int (WI 10)) (C := RX9) (T := TX9) (N := 13) hx hb hts in_X9 hown hg.1 (wkat hW hS).1 0 rfl rfl 10 (Nat.le_of_ble_eq_true rfl) (hts _ q529) (fun _ h9 => h9) rfl dX4_effectOf_43 ?_
    refine lv_iconst (v := 2) hx hb dX4_effectOf_46 ci_2 ?_
    refine lv_idiv hx hb dX4_effectOf_47 (by decide) ?_
    refine va_mmax hx hb (by rw [hml]; exact hl.1.symm) hown (hts _ q905) (hts _ q906) (hts _ q104) (hts _ q907) (Nat.le_of_ble_eq_true rfl) (Nat.le_of_ble_eq_true rfl) (Nat.le_of_ble_eq_true rfl) (Nat.le_of_ble_eq_true rfl) dX4_effectOf_48 ?_
    refine lv_imul hx hb dX4_effectOf_51 ?_
    refine lv_aload_n hx hb dX4_effectOf_52 rfl (lv_at hl 3 rfl) ?_
    refine va_get (D := D) (ci := 7) (v := .int (WI 10)) (C := RX9) (T := TX9) (N := 13) hx hb hts in_X9 hown hg.1 (wkat hW hS).1 0 rfl rfl 10 (Nat.le_of_ble_eq_true rfl) (hts _ q529) (fun _ h9 => h9) rfl dX4_effectOf_53 ?_
    refine lv_idiv hx hb dX4_effectOf_56 (by first | assumption | omega) ?_
    refine lv_topi (fun x6 ex6 => ?_)
    refine lv_istore (lv' := [(4, .int x6), (3, .int x1), (0, .ref st), (1, .ref wa), (2, .ref se)]) hx hb dX4_effectOf_57 hl (Nat.le_of_ble_eq_true rfl) rfl (fun ls hl => ?_)
    refine lv_iload hx hb dX4_effectOf_59 (lv_at hl 0 rfl) ?_
    refine lv_bipush (v := 10) hx hb dX4_effectOf_61 cb_10 ?_
    refine lv_imul hx hb dX4_effectOf_63 ?_
    refine lv_bipush (v := 9) hx hb dX4_effectOf_64 cb_9 ?_
    refine lv_aload_n hx hb dX4_effectOf_66 rfl (lv_at hl 3 rfl) ?_
    refine va_get (D := D) (ci := 7) (v := .ref (wd.1 1)) (C := RX9) (T := TX9) (N := 13) hx hb hts in_X9 hown hg.1 (wkat hW hS).1 0 rfl rfl 1 (Nat.le_of_ble_eq_true rfl) (hts _ q495) (fun _ h9 => h9) rfl dX4_effectOf_67 ?_
    refine lv_aload_n hx hb dX4_effectOf_70 rfl (lv_at hl 4 rfl) ?_
    refine va_get (D := D) (ci := 4) (v := .int (J 2)) (C := RX5) (T := TX5) (N := 3) hx hb hts in_X5 hown hg.1 (wzat hZ hS) 0 rfl rfl 2 (Nat.le_of_ble_eq_true rfl) (hts _ q320) (fun _ h9 => h9) rfl dX4_effectOf_71 ?_
    refine xa_aald hx hb hg (wkat hW hS).1 2 7 rfl rfl hJ2 (by omega) (by omega) (b := (wd.2.2.2.2.1 ore)) ((wkat hW hS).2.2 ore (by omega)).1 dX4_effectOf_74 ?_
    refine va_get (D := D) (ci := 9) (v := .int ((OI ore) 1)) (C := RX12) (T := TX12) (N := 3) hx hb hts in_X12 hown hg.1 ((wkat hW hS).2.2 ore (by omega)).2 0 rfl rfl 1 (Nat.le_of_ble_eq_true rfl) (hts _ q839) (fun _ h9 => h9) rfl dX4_effectOf_75 ?_
    refine lv_iadd hx hb dX4_effectOf_78 ?_
    refine lv_idiv hx hb dX4_effectOf_79 (by first | assumption | omega) ?_
    exact xret_i hx hb hr hlocks (Nat.le_of_ble_eq_true rfl) (Nat.le_of_ble_eq_true rfl) hS.2.2 dX4_effectOf_80 (fun t ht => ⟨⟨((x6 * 10) / (9 + ((OI ore) 1))), ((x6 * 10) / (9 + ((OI ore) 1))), rfl, ⟨rfl, (by subst ex6; subst ex5; subst ev4; subst ex1; exact rfl)⟩, by rw [ht]; exact hP, hD⟩, hS.F ht⟩)
  refine lv_if_ge (tgt := 27) hx hb dX4_effectOf_19 (by decide) (fun c7 => ?_) (fun c7 => ?_)
  · refine lv_iload_n hx hb dX4_effectOf_27 rfl (lv_at hl 0 rfl) ?_
    exact Jn1 x1 _ _ _ (by exact Eq.symm (Eq.trans (if_pos c7) (rfl))) hP hD hS (lv_sub hl [0, 1, 2, 3] rfl)
  · refine lv_iload_n hx hb dX4_effectOf_22 rfl (lv_at hl 0 rfl) ?_
    refine lv_ineg hx hb dX4_effectOf_23 ?_
    refine lv_goto (tgt := 28) hx hb dX4_effectOf_24 (by decide) ?_
    exact Jn1 (-x1) _ _ _ (by exact Eq.symm (Eq.trans (if_neg c7) (rfl))) hP hD hS (lv_sub hl [0, 1, 2, 3] rfl)

def f_X4_grinds_j12 (n2 : Nat) (x75 : Int32) (x76 : Int32) (v79 : (Int32)) (f86 : Nat → Int32) : (Nat → Int32) :=
  if v79 = 0 then
    let x95 := ((f86 (n2 + 2)) + (x75 - x76))
    let f96 := upd f86 (n2 + 2) x95
    f96
  else
    f86
def f_X4_grinds_j11 (x75 : Int32) (x76 : Int32) (v79 : (Int32)) : (Int32) :=
  if v79 = 0 then
    x76
  else
    x75
def f_X4_grinds_j10 (WI : Nat → Int32) (n2 : Nat) : (Int32) :=
  if ((nI n2) + 2) < (WI 3) then
    0
  else
    1
def f_X4_grinds_l7 (I : Nat → Int32) (WI : Nat → Int32) (SI : Nat → Nat → Int32) (n2 : Nat) (X2 : (Nat → Int32)) : (Nat → Int32) :=
  let x75 := ((((X2 n2) * ((SI n2) 1)) * (I 12)) / 10000)
  let x76 := ((x75 * ((SI n2) 2)) / 100)
  let v79 := f_X4_grinds_j10 WI n2
  let x80 := ((X2 n2) - x75)
  let f81 := upd X2 n2 x80
  let v84 := f_X4_grinds_j11 x75 x76 v79
  let x85 := ((f81 (n2 + 1)) + v84)
  let f86 := upd f81 (n2 + 1) x85
  let v93 := f_X4_grinds_j12 n2 x75 x76 v79 f86
  v93
def f_X4_grinds (I : Nat → Int32) (h0 : Nat → Int32) (WI : Nat → Int32) (SI : Nat → Nat → Int32) (nS : Nat) : (Nat → Int32) :=
  let x1 := ((WI 3) - 2)
  let X2 := itD (f_X4_grinds_l7 I WI SI) (nS - 1) h0
  X2
abbrev q_X4_grinds (D : va_G) (k : KK) (st : Nat) (sr : Nat → Nat) (I : Nat → Int32) (L : Nat → Int64) (h0 : Nat → Int32) (h1 : Nat → Int32) (h2 : Nat → Int32) (h3 : Nat → Int32) (wa : Nat) (wd : WAd) (WI : Nat → Int32) (pr : Nat → Int32) (SI : Nat → Nat → Int32) (OI : Nat → Nat → Int32) (tn : Nat → Nat → Int32) (nS : Nat) (nO : Nat) (A : Nat → Prop) : Array Value → State → Outcome → State → Prop := va_Qv (fun (u : (Nat → Int32)) => u = f_X4_grinds I h0 WI SI nS) (bx D (fun u => [(st, eST sr I L), ((sr 0), aI k 5 u), ((sr 1), aI k 5 h1), ((sr 2), aI k 5 h2), ((sr 3), aI k 5 h3)]) A) A
abbrev rm_X4_grinds : Room := { frames := 2, cells := 0, slots := 0, locals := 80 }
theorem xo_X4_grinds : xok yX4_grinds 1 := by unfold xok; decide +kernel
set_option maxHeartbeats 8000000 in
theorem m_X4_grinds (l : Launch) (D : va_G) (k : KK) (sz : Nat) (st : Nat) (sr : Nat → Nat) (I : Nat → Int32) (L : Nat → Int64) (h0 : Nat → Int32) (h1 : Nat → Int32) (h2 : Nat → Int32) (h3 : Nat → Int32) (wa : Nat) (wd : WAd) (WI : Nat → Int32) (pr : Nat → Int32) (SI : Nat → Nat → Int32) (OI : Nat → Nat → Int32) (tn : Nat → Nat → Int32) (nS : Nat) (nO : Nat) (hnS : WI 3 = nI nS) (hnO : WI 4 = nI nO) (hS2 : 2 ≤ nS) (hS5 : nS ≤ 5) (hO4 : nO ≤ 4) : Met l yX4_grinds (ws_ yX4_grinds cX4_grinds 6 none) rm_X4_grinds (pcx D k [.ref st, .ref wa] sz [(st, eST sr I L), ((sr 0), aI k 5 h0), ((sr 1), aI k 5 h1), ((sr 2), aI k 5 h2), ((sr 3), aI k 5 h3)] (wkY D k wa wd WI pr SI OI tn nS nO (va_A [(st, eST sr I L), ((sr 0), aI k 5 h0), ((sr 1), aI k 5 h1), ((sr 2), aI k 5 h2), ((sr 3), aI k 5 h3)] sz))) (q_X4_grinds D k st sr I L h0 h1 h2 h3 wa wd WI pr SI OI tn nS nO (va_A [(st, eST sr I L), ((sr 0), aI k 5 h0), ((sr 1), aI k 5 h1), ((sr 2), aI k 5 h2), ((sr 3), aI k 5 h3)] sz)) 0 0 (va_A [(st, eST sr I L), ((sr 0), aI k 5 h0), ((sr 1), aI k 5 h1), ((sr 2), aI k 5 h2), ((sr 3), aI k 5 h3)] sz) := by
  refine Met.start (Qc := q_X4_grinds D k st sr I L h0 h1 h2 h3 wa wd WI pr SI OI tn nS nO) (by decide) (Nat.le_of_ble_eq_true rfl) ?_
  intro p e s m below meth c A hx hb hr hlocks hml hown hin hts hg hP hD hA hAn hS hY hsz ls hl
  have hown : s.vm.findClass RX4 = some m.cls := hown
  have hl : lv_has ls 6 [(0, .ref st), (1, .ref wa)] := hl
  have hW := wkY.mono hY hAn
  refine lv_aload_n hx hb dX4_grinds_0 rfl (lv_at hl 1 rfl) ?_
  refine va_get (D := D) (ci := 7) (v := .int (WI 3)) (C := RX9) (T := TX9) (N := 13) hx hb hts in_X9 hown hg.1 (wkat hW hS).1 0 rfl rfl 3 (Nat.le_of_ble_eq_true rfl) (hts _ q502) (fun _ h9 => h9) rfl dX4_grinds_1 ?_
  refine lv_iconst (v := 2) hx hb dX4_grinds_4 ci_2 ?_
  refine lv_isub hx hb dX4_grinds_5 ?_
  refine lv_topi (fun x1 ex1 => ?_)
  refine lv_istore_n (lv' := [(2, .int x1), (0, .ref st), (1, .ref wa)]) hx hb dX4_grinds_6 rfl hl (Nat.le_of_ble_eq_true rfl) rfl (fun ls hl => ?_)
  have loop2 : ∀ (n2 i2 : Nat) (X2 : (Nat → Int32)) (H : Heap) (locs : List Loc) (ls : Array Slot), i2 + n2 = nS - 1 → itD (f_X4_grinds_l7 I WI SI) n2 X2 = itD (f_X4_grinds_l7 I WI SI) (nS - 1) h0 → va_P D vwCl [(st, eST sr I L), ((sr 0), aI k 5 X2), ((sr 1), aI k 5 h1), ((sr 2), aI k 5 h2), ((sr 3), aI k 5 h3)] H → va_D A [(st, eST sr I L), ((sr 0), aI k 5 X2), ((sr 1), aI k 5 h1), ((sr 2), aI k 5 h2), ((sr 3), aI k 5 h3)] → va_S A s.heap H locs → lv_has ls 6 [(2, .int (nI n2 - 1)), (0, .ref st), (1, .ref wa)] → W p l e rm_X4_grinds s m ([.ref st, .ref wa] : List Value).toArray below meth c H locs 0 0 (MQ below (q_X4_grinds D k st sr I L h0 h1 h2 h3 wa wd WI pr SI OI tn nS nO A) ([.ref st, .ref wa] : List Value).toArray s 0 0 A) (F0 m 7 ls []) := by
    intro n2
    induction n2 with
    | zero =>
      intro i2 X2 H locs ls hn2 eX2 hP hD hS hl
      have hi2 : i2 = nS - 1 := by omega
      replace eX2 : X2 = itD (f_X4_grinds_l7 I WI SI) (nS - 1) h0 := eX2
      refine lv_iload_n hx hb dX4_grinds_7 rfl (lv_at hl 0 rfl) ?_
      refine lv_if_lt (tgt := 128) hx hb dX4_grinds_8 (by decide) (fun _ => ?_) (fun c => absurd (by decide) c)
      exact xret_v hx hb hr hlocks (Nat.le_of_ble_eq_true rfl) (Nat.le_of_ble_eq_true rfl) hS.2.2 dX4_grinds_128 (fun t ht => ⟨⟨X2, rfl, (by subst eX2; subst ex1; exact rfl), by rw [ht]; exact hP, hD⟩, hS.F ht⟩)
    | succ n2 ih2 =>
      intro i2 X2 H locs ls hn2 eX2 hP hD hS hl
      have hi2 : n2 < nS - 1 := by omega
      rw [nI_pred] at hl
      refine lv_iload_n hx hb dX4_grinds_7 rfl (lv_at hl 0 rfl) ?_
      refine lv_if_lt (tgt := 128) hx hb dX4_grinds_8 (by decide) (fun c => absurd c (nI_pos (by omega))) (fun _ => ?_)
      refine lv_aload_n hx hb dX4_grinds_11 rfl (lv_at hl 1 rfl) ?_
      refine va_get (D := D) (ci := 3) (v := .ref (sr 0)) (C := RX4) (T := TX4) (N := 18) hx hb hts in_X4 hown hg.1 hP 0 rfl rfl 0 (Nat.le_of_ble_eq_true rfl) (hts _ q233) (fun _ h9 => h9) rfl dX4_grinds_12 ?_
      refine lv_iload_n hx hb dX4_grinds_15 rfl (lv_at hl 0 rfl) ?_
      refine xa_iald hx hb hg hP 1 rfl rfl (by first | omega | exact Nat.lt_of_lt_of_le (Nat.mod_lt _ (by omega)) (by omega)) (by omega) dX4_grinds_16 ?_
      refine lv_aload_n hx hb dX4_grinds_17 rfl (lv_at hl 2 rfl) ?_
      refine va_get (D := D) (ci := 7) (v := .ref (wd.1 0)) (C := RX9) (T := TX9) (N := 13) hx hb hts in_X9 hown hg.1 (wkat hW hS).1 0 rfl rfl 0 (Nat.le_of_ble_eq_true rfl) (hts _ q492) (fun _ h9 => h9) rfl dX4_grinds_18 ?_
      refine lv_iload_n hx hb dX4_grinds_21 rfl (lv_at hl 0 rfl) ?_
      refine xa_aald hx hb hg (wkat hW hS).1 1 6 rfl rfl rfl (by omega) (by omega) (b := (wd.2.2.2.1 n2)) ((wkat hW hS).2.1 n2 (by omega)).1 dX4_grinds_22 ?_
      refine va_get (D := D) (ci := 8) (v := .int ((SI n2) 1)) (C := RX11) (T := TX11) (N := 3) hx hb hts in_X11 hown hg.1 ((wkat hW hS).2.1 n2 (by omega)).2 0 rfl rfl 1 (Nat.le_of_ble_eq_true rfl) (hts _ q811) (fun _ h9 => h9) rfl dX4_grinds_23 ?_
      refine lv_imul hx hb dX4_grinds_26 ?_
      refine lv_aload_n hx hb dX4_grinds_27 rfl (lv_at hl 1 rfl) ?_
      refine va_get (D := D) (ci := 3) (v := .int (I 12)) (C := RX4) (T := TX4) (N := 18) hx hb hts in_X4 hown hg.1 hP 0 rfl rfl 12 (Nat.le_of_ble_eq_true rfl) (hts _ q257) (fun _ h9 => h9) rfl dX4_grinds_28 ?_
      refine lv_imul hx hb dX4_grinds_31 ?_
      refine lv_sipush (v := 10000) hx hb dX4_grinds_32 cs_10000 ?_
      refine lv_idiv hx hb dX4_grinds_35 (by decide) ?_
      refine lv_topi (fun x75 ex75 => ?_)
      refine lv_istore_n (lv' := [(3, .int x75), (2, .int (nI n2)), (0, .ref st), (1, .ref wa)]) hx hb dX4_grinds_36 rfl hl (Nat.le_of_ble_eq_true rfl) rfl (fun ls hl => ?_)
      refine lv_iload_n hx hb dX4_grinds_37 rfl (lv_at hl 0 rfl) ?_
      refine lv_aload_n hx hb dX4_grinds_38 rfl (lv_at hl 3 rfl) ?_
      refine va_get (D := D) (ci := 7) (v := .ref (wd.1 0)) (C := RX9) (T := TX9) (N := 13) hx hb hts in_X9 hown hg.1 (wkat hW hS).1 0 rfl rfl 0 (Nat.le_of_ble_eq_true rfl) (hts _ q492) (fun _ h9 => h9) rfl dX4_grinds_39 ?_
      refine lv_iload_n hx hb dX4_grinds_42 rfl (lv_at hl 1 rfl) ?_
      refine xa_aald hx hb hg (wkat hW hS).1 1 6 rfl rfl rfl (by omega) (by omega) (b := (wd.2.2.2.1 n2)) ((wkat hW hS).2.1 n2 (by omega)).1 dX4_grinds_43 ?_
      refine va_get (D := D) (ci := 8) (v := .int ((SI n2) 2)) (C := RX11) (T := TX11) (N := 3) hx hb hts in_X11 hown hg.1 ((wkat hW hS).2.1 n2 (by omega)).2 0 rfl rfl 2 (Nat.le_of_ble_eq_true rfl) (hts _ q814) (fun _ h9 => h9) rfl dX4_grinds_44 ?_
      refine lv_imul hx hb dX4_grinds_47 ?_
      refine lv_bipush (v := 100) hx hb dX4_grinds_48 cb_100 ?_
      refine lv_idiv hx hb dX4_grinds_50 (by decide) ?_
      refine lv_topi (fun x76 ex76 => ?_)
      refine lv_istore (lv' := [(4, .int x76), (3, .int x75), (2, .int (nI n2)), (0, .ref st), (1, .ref wa)]) hx hb dX4_grinds_51 hl (Nat.le_of_ble_eq_true rfl) rfl (fun ls hl => ?_)
      refine lv_iload_n hx hb dX4_grinds_53 rfl (lv_at hl 2 rfl) ?_
      refine lv_iconst (v := 2) hx hb dX4_grinds_54 ci_2 ?_
      refine lv_iadd hx hb dX4_grinds_55 ?_
      refine lv_aload_n hx hb dX4_grinds_56 rfl (lv_at hl 4 rfl) ?_
      refine va_get (D := D) (ci := 7) (v := .int (WI 3)) (C := RX9) (T := TX9) (N := 13) hx hb hts in_X9 hown hg.1 (wkat hW hS).1 0 rfl rfl 3 (Nat.le_of_ble_eq_true rfl) (hts _ q502) (fun _ h9 => h9) rfl dX4_grinds_57 ?_
      have Jn10 : ∀ (v79 : (Int32)) (H : Heap) (locs : List Loc) (ls : Array Slot), v79 = f_X4_grinds_j10 WI n2 → (v79 = 0 ∨ v79 = 1) → va_P D vwCl [(st, eST sr I L), ((sr 0), aI k 5 X2), ((sr 1), aI k 5 h1), ((sr 2), aI k 5 h2), ((sr 3), aI k 5 h3)] H → va_D A [(st, eST sr I L), ((sr 0), aI k 5 X2), ((sr 1), aI k 5 h1), ((sr 2), aI k 5 h2), ((sr 3), aI k 5 h3)] → va_S A s.heap H locs → lv_has ls 6 [(4, .int x76), (3, .int x75), (2, .int (nI n2)), (0, .ref st), (1, .ref wa)] → W p l e rm_X4_grinds s m ([.ref st, .ref wa] : List Value).toArray below meth c H locs 0 0 (MQ below (q_X4_grinds D k st sr I L h0 h1 h2 h3 wa wd WI pr SI OI tn nS nO A) ([.ref st, .ref wa] : List Value).toArray s 0 0 A) (F0 m 68 ls [.int v79]) := by
        intro v79 H locs ls ev79 bv79_0 hP hD hS hl
        refine lv_istore (lv' := [(5, .int v79), (4, .int x76), (3, .int x75), (2, .int (nI n2)), (0, .ref st), (1, .ref wa)]) hx hb dX4_grinds_68 hl (Nat.le_of_ble_eq_true rfl) rfl (fun ls hl => ?_)
        refine lv_aload_n hx hb dX4_grinds_70 rfl (lv_at hl 4 rfl) ?_
        refine va_get (D := D) (ci := 3) (v := .ref (sr 0)) (C := RX4) (T := TX4) (N := 18) hx hb hts in_X4 hown hg.1 hP 0 rfl rfl 0 (Nat.le_of_ble_eq_true rfl) (hts _ q233) (fun _ h9 => h9) rfl dX4_grinds_71 ?_
        refine lv_iload_n hx hb dX4_grinds_74 rfl (lv_at hl 3 rfl) ?_
        refine lv_dup2_11 hx hb dX4_grinds_75 rfl rfl ?_
        refine xa_iald hx hb hg hP 1 rfl rfl (by first | omega | exact Nat.lt_of_lt_of_le (Nat.mod_lt _ (by omega)) (by omega)) (by omega) dX4_grinds_76 ?_
        refine lv_iload_n hx hb dX4_grinds_77 rfl (lv_at hl 2 rfl) ?_
        refine lv_isub hx hb dX4_grinds_78 ?_
        refine lv_topi (fun x80 ex80 => ?_)
        refine xa_iast hx hb hg hP hD hS 1 rfl rfl (by omega) (by omega) dX4_grinds_79 (fun f81 H locs ef81 hP hD hS => ?_)
        replace hP : va_P D vwCl [(st, eST sr I L), ((sr 0), aI k 5 f81), ((sr 1), aI k 5 h1), ((sr 2), aI k 5 h2), ((sr 3), aI k 5 h3)] H := hP
        replace hD : va_D A [(st, eST sr I L), ((sr 0), aI k 5 f81), ((sr 1), aI k 5 h1), ((sr 2), aI k 5 h2), ((sr 3), aI k 5 h3)] := hD
        refine lv_aload_n hx hb dX4_grinds_80 rfl (lv_at hl 4 rfl) ?_
        refine va_get (D := D) (ci := 3) (v := .ref (sr 0)) (C := RX4) (T := TX4) (N := 18) hx hb hts in_X4 hown hg.1 hP 0 rfl rfl 0 (Nat.le_of_ble_eq_true rfl) (hts _ q233) (fun _ h9 => h9) rfl dX4_grinds_81 ?_
        refine lv_iload_n hx hb dX4_grinds_84 rfl (lv_at hl 3 rfl) ?_
        refine lv_iconst (v := 1) hx hb dX4_grinds_85 ci_1 ?_
        refine lv_iadd hx hb dX4_grinds_86 ?_
        refine lv_dup2_11 hx hb dX4_grinds_87 rfl rfl ?_
        refine xa_iald hx hb hg hP 1 rfl (xnadd rfl xl_1) (by first | omega | exact Nat.lt_of_lt_of_le (Nat.mod_lt _ (by omega)) (by omega)) (by omega) dX4_grinds_88 ?_
        refine lv_iload hx hb dX4_grinds_89 (lv_at hl 0 rfl) ?_
        have Jn11 : ∀ (v84 : (Int32)) (H : Heap) (locs : List Loc) (ls : Array Slot), v84 = f_X4_grinds_j11 x75 x76 v79 → va_P D vwCl [(st, eST sr I L), ((sr 0), aI k 5 f81), ((sr 1), aI k 5 h1), ((sr 2), aI k 5 h2), ((sr 3), aI k 5 h3)] H → va_D A [(st, eST sr I L), ((sr 0), aI k 5 f81), ((sr 1), aI k 5 h1), ((sr 2), aI k 5 h2), ((sr 3), aI k 5 h3)] → va_S A s.heap H locs → lv_has ls 6 [(5, .int v79), (4, .int x76), (3, .int x75), (2, .int (nI n2)), (0, .ref st), (1, .ref wa)] → W p l e rm_X4_grinds s m ([.ref st, .ref wa] : List Value).toArray below meth c H locs 0 0 (MQ below (q_X4_grinds D k st sr I L h0 h1 h2 h3 wa wd WI pr SI OI tn nS nO A) ([.ref st, .ref wa] : List Value).toArray s 0 0 A) (F0 m 100 ls [.int v84, .int (f81 (n2 + 1)), .int ((nI n2) + 1), .ref (sr 0)]) := by
          intro v84 H locs ls ev84 hP hD hS hl
          refine lv_iadd hx hb dX4_grinds_100 ?_
          refine lv_topi (fun x85 ex85 => ?_)
          refine xa_iast hx hb hg hP hD hS 1 rfl (xnadd rfl xl_1) (by omega) (by omega) dX4_grinds_101 (fun f86 H locs ef86 hP hD hS => ?_)
          replace hP : va_P D vwCl [(st, eST sr I L), ((sr 0), aI k 5 f86), ((sr 1), aI k 5 h1), ((sr 2), aI k 5 h2), ((sr 3), aI k 5 h3)] H := hP
          replace hD : va_D A [(st, eST sr I L), ((sr 0), aI k 5 f86), ((sr 1), aI k 5 h1), ((sr 2), aI k 5 h2), ((sr 3), aI k 5 h3)] := hD
          refine lv_iload hx hb dX4_grinds_102 (lv_at hl 0 rfl) ?_
          have Jn12 : ∀ (v93 : (Nat → Int32)) (H : Heap) (locs : List Loc) (ls : Array Slot), v93 = f_X4_grinds_j12 n2 x75 x76 v79 f86 → va_P D vwCl [(st, eST sr I L), ((sr 0), aI k 5 v93), ((sr 1), aI k 5 h1), ((sr 2), aI k 5 h2), ((sr 3), aI k 5 h3)] H → va_D A [(st, eST sr I L), ((sr 0), aI k 5 v93), ((sr 1), aI k 5 h1), ((sr 2), aI k 5 h2), ((sr 3), aI k 5 h3)] → va_S A s.heap H locs → lv_has ls 6 [(5, .int v79), (4, .int x76), (3, .int x75), (2, .int (nI n2)), (0, .ref st), (1, .ref wa)] → W p l e rm_X4_grinds s m ([.ref st, .ref wa] : List Value).toArray below meth c H locs 0 0 (MQ below (q_X4_grinds D k st sr I L h0 h1 h2 h3 wa wd WI pr SI OI tn nS nO A) ([.ref st, .ref wa] : List Value).toArray s 0 0 A) (F0 m 122 ls []) := by
            intro v93 H locs ls ev93 hP hD hS hl
            refine lv_iinc (v := (nI n2 - 1)) (lv' := [(2, .int (nI n2 - 1)), (5, .int v79), (4, .int x76), (3, .int x75), (0, .ref st), (1, .ref wa)]) hx hb dX4_grinds_122 hl (k := 3) rfl (xdec1 _) (Nat.le_of_ble_eq_true rfl) rfl (fun ls hl => ?_)
            refine lv_goto (tgt := 7) hx hb dX4_grinds_125 (by decide) ?_
            exact ih2 (i2 + 1) v93 _ _ _ (by omega) (Eq.trans (congrArg (itD (f_X4_grinds_l7 I WI SI) n2) (by subst ev93; subst ef86; subst ex85; subst ev84; subst ef81; subst ex80; subst ev79; subst ex76; subst ex75; exact rfl)) eX2) hP hD hS (lv_sub hl [0, 4, 5] rfl)
          refine lv_if_ne (tgt := 122) hx hb dX4_grinds_104 (by decide) (fun c94 => ?_) (fun c94 => ?_)
          · exact Jn12 f86 _ _ _ (by exact Eq.symm (Eq.trans (if_neg c94) (rfl))) hP hD hS (lv_sub hl [0, 1, 2, 3, 4, 5] rfl)
          · have hb2 : n2 + 2 < nS := by
              apply Decidable.byContradiction
              intro h
              rw [ev79, f_X4_grinds_j10, if_neg (xlt_f (xnadd rfl xl_2) hnS (by omega) (by omega))] at c94
              exact absurd c94 (by decide)
            refine lv_aload_n hx hb dX4_grinds_107 rfl (lv_at hl 4 rfl) ?_
            refine va_get (D := D) (ci := 3) (v := .ref (sr 0)) (C := RX4) (T := TX4) (N := 18) hx hb hts in_X4 hown hg.1 hP 0 rfl rfl 0 (Nat.le_of_ble_eq_true rfl) (hts _ q233) (fun _ h9 => h9) rfl dX4_grinds_108 ?_
            refine lv_iload_n hx hb dX4_grinds_111 rfl (lv_at hl 3 rfl) ?_
            refine lv_iconst (v := 2) hx hb dX4_grinds_112 ci_2 ?_
            refine lv_iadd hx hb dX4_grinds_113 ?_
            refine lv_dup2_11 hx hb dX4_grinds_114 rfl rfl ?_
            refine xa_iald hx hb hg hP 1 rfl (xnadd rfl xl_2) (by first | omega | exact Nat.lt_of_lt_of_le (Nat.mod_lt _ (by omega)) (by omega)) (by omega) dX4_grinds_115 ?_
            refine lv_iload_n hx hb dX4_grinds_116 rfl (lv_at hl 2 rfl) ?_
            refine lv_iload hx hb dX4_grinds_117 (lv_at hl 1 rfl) ?_
            refine lv_isub hx hb dX4_grinds_119 ?_
            refine lv_iadd hx hb dX4_grinds_120 ?_
            refine lv_topi (fun x95 ex95 => ?_)
            refine xa_iast hx hb hg hP hD hS 1 rfl (xnadd rfl xl_2) (by omega) (by omega) dX4_grinds_121 (fun f96 H locs ef96 hP hD hS => ?_)
            replace hP : va_P D vwCl [(st, eST sr I L), ((sr 0), aI k 5 f96), ((sr 1), aI k 5 h1), ((sr 2), aI k 5 h2), ((sr 3), aI k 5 h3)] H := hP
            replace hD : va_D A [(st, eST sr I L), ((sr 0), aI k 5 f96), ((sr 1), aI k 5 h1), ((sr 2), aI k 5 h2), ((sr 3), aI k 5 h3)] := hD
            exact Jn12 f96 _ _ _ (by subst ef96; subst ex95; exact Eq.symm (Eq.trans (if_pos c94) (rfl))) hP hD hS (lv_sub hl [0, 1, 2, 3, 4, 5] rfl)
        refine lv_if_eq (tgt := 98) hx hb dX4_grinds_91 (by decide) (fun c97 => ?_) (fun c97 => ?_)
        · refine lv_iload hx hb dX4_grinds_98 (lv_at hl 1 rfl) ?_
          exact Jn11 x76 _ _ _ (by exact Eq.symm (Eq.trans (if_pos c97) (rfl))) hP hD hS (lv_sub hl [0, 1, 2, 3, 4, 5] rfl)
        · refine lv_iload_n hx hb dX4_grinds_94 rfl (lv_at hl 2 rfl) ?_
          refine lv_goto (tgt := 100) hx hb dX4_grinds_95 (by decide) ?_
          exact Jn11 x75 _ _ _ (by exact Eq.symm (Eq.trans (if_neg c97) (rfl))) hP hD hS (lv_sub hl [0, 1, 2, 3, 4, 5] rfl)
      refine lv_icmp_lt (tgt := 67) hx hb dX4_grinds_60 (by decide) (fun c98 => ?_) (fun c98 => ?_)
      · refine lv_iconst (v := 0) hx hb dX4_grinds_67 ci_0 ?_
        exact Jn10 0 _ _ _ (by exact Eq.symm (Eq.trans (if_pos c98) (rfl))) (Or.inl rfl) hP hD hS (lv_sub hl [0, 1, 2, 3, 4] rfl)
      · refine lv_iconst (v := 1) hx hb dX4_grinds_63 ci_1 ?_
        refine lv_goto (tgt := 68) hx hb dX4_grinds_64 (by decide) ?_
        exact Jn10 1 _ _ _ (by exact Eq.symm (Eq.trans (if_neg c98) (rfl))) (Or.inr rfl) hP hD hS (lv_sub hl [0, 1, 2, 3, 4] rfl)
  exact loop2 (nS - 1) 0 h0 _ _ _ (by omega) rfl hP hD hS (by rw [show nI (nS - 1) - 1 = x1 from (by rw [ex1]; exact xdn2 hnS hS2)]; exact (lv_sub hl [0, 1, 2] rfl))

def f_X4_sifts_j4 (I : Nat → Int32) (WI : Nat → Int32) (i1 : Nat) (x41 : Int32) : (Int32) :=
  if (WI 8) ≤ nI i1 then
    x41
  else
    ((x41 * (if ((I 9) * (WI 9)) < 100 then ((I 9) * (WI 9)) else 100)) / 100)
def f_X4_sifts_l2 (I : Nat → Int32) (J : Nat → Int32) (WI : Nat → Int32) (i1 : Nat) (X1 : (Int32) × (Nat → Int32) × (Nat → Int32) × (Nat → Int32) × (Nat → Int32)) : (Int32) × (Nat → Int32) × (Nat → Int32) × (Nat → Int32) × (Nat → Int32) :=
  let x41 := (((X1.2.1 i1) * (20 + (10 * (J 1)))) / 100)
  let x42 := ((X1.2.1 i1) - x41)
  let f43 := upd X1.2.1 i1 x42
  let v46 := f_X4_sifts_j4 I WI i1 x41
  let f47 := upd X1.2.2.2.1 i1 v46
  let x48 := (x41 - (f47 i1))
  let f49 := upd X1.2.2.1 i1 x48
  let x50 := ((X1.2.2.2.2 i1) + (f47 i1))
  let f51 := upd X1.2.2.2.2 i1 x50
  let x52 := (X1.1 + (f47 i1))
  (x52, f43, f49, f47, f51)
def f_X4_sifts (I : Nat → Int32) (h0 : Nat → Int32) (h1 : Nat → Int32) (h2 : Nat → Int32) (h3 : Nat → Int32) (J : Nat → Int32) (WI : Nat → Int32) (nS : Nat) : Int32 × (Nat → Int32) × (Nat → Int32) × (Nat → Int32) × (Nat → Int32) :=
  let X1 := itN (f_X4_sifts_l2 I J WI) nS ((I 4), h0, h1, h2, h3)
  (X1.1, X1.2.1, X1.2.2.1, X1.2.2.2.1, X1.2.2.2.2)
abbrev q_X4_sifts (D : va_G) (k : KK) (st : Nat) (sr : Nat → Nat) (I : Nat → Int32) (L : Nat → Int64) (h0 : Nat → Int32) (h1 : Nat → Int32) (h2 : Nat → Int32) (h3 : Nat → Int32) (se : Nat) (J : Nat → Int32) (wa : Nat) (wd : WAd) (WI : Nat → Int32) (pr : Nat → Int32) (SI : Nat → Nat → Int32) (OI : Nat → Nat → Int32) (tn : Nat → Nat → Int32) (nS : Nat) (nO : Nat) (A : Nat → Prop) : Array Value → State → Outcome → State → Prop := va_Qv (fun (u : Int32 × (Nat → Int32) × (Nat → Int32) × (Nat → Int32) × (Nat → Int32)) => u = f_X4_sifts I h0 h1 h2 h3 J WI nS) (bx D (fun u => [(st, eST sr (upd I 4 u.1) L), ((sr 0), aI k 5 u.2.1), ((sr 1), aI k 5 u.2.2.1), ((sr 2), aI k 5 u.2.2.2.1), ((sr 3), aI k 5 u.2.2.2.2)]) A) A
abbrev rm_X4_sifts : Room := { frames := 2, cells := 0, slots := 0, locals := 80 }
theorem xo_X4_sifts : xok yX4_sifts 2 := by unfold xok; decide +kernel
set_option maxHeartbeats 8000000 in
theorem m_X4_sifts (l : Launch) (D : va_G) (k : KK) (sz : Nat) (st : Nat) (sr : Nat → Nat) (I : Nat → Int32) (L : Nat → Int64) (h0 : Nat → Int32) (h1 : Nat → Int32) (h2 : Nat → Int32) (h3 : Nat → Int32) (se : Nat) (J : Nat → Int32) (wa : Nat) (wd : WAd) (WI : Nat → Int32) (pr : Nat → Int32) (SI : Nat → Nat → Int32) (OI : Nat → Nat → Int32) (tn : Nat → Nat → Int32) (nS : Nat) (nO : Nat) (hnS : WI 3 = nI nS) (hnO : WI 4 = nI nO) (hS2 : 2 ≤ nS) (hS5 : nS ≤ 5) (hO4 : nO ≤ 4) : Met l yX4_sifts (ws_ yX4_sifts cX4_sifts 5 none) rm_X4_sifts (pcx D k [.ref st, .ref wa, .ref se] sz [(st, eST sr I L), ((sr 0), aI k 5 h0), ((sr 1), aI k 5 h1), ((sr 2), aI k 5 h2), ((sr 3), aI k 5 h3)] (wkZ D k wa wd WI pr SI OI tn nS nO se J (va_A [(st, eST sr I L), ((sr 0), aI k 5 h0), ((sr 1), aI k 5 h1), ((sr 2), aI k 5 h2), ((sr 3), aI k 5 h3)] sz))) (q_X4_sifts D k st sr I L h0 h1 h2 h3 se J wa wd WI pr SI OI tn nS nO (va_A [(st, eST sr I L), ((sr 0), aI k 5 h0), ((sr 1), aI k 5 h1), ((sr 2), aI k 5 h2), ((sr 3), aI k 5 h3)] sz)) 0 0 (va_A [(st, eST sr I L), ((sr 0), aI k 5 h0), ((sr 1), aI k 5 h1), ((sr 2), aI k 5 h2), ((sr 3), aI k 5 h3)] sz) := by
  refine Met.start (Qc := q_X4_sifts D k st sr I L h0 h1 h2 h3 se J wa wd WI pr SI OI tn nS nO) (by decide) (Nat.le_of_ble_eq_true rfl) ?_
  intro p e s m below meth c A hx hb hr hlocks hml hown hin hts hg hP hD hA hAn hS hY hsz ls hl
  have hown : s.vm.findClass RX4 = some m.cls := hown
  have hl : lv_has ls 5 [(0, .ref st), (1, .ref wa), (2, .ref se)] := hl
  have hZ := wkZ.mono hY hAn
  have hW := hZ.1
  refine lv_iconst (v := 0) hx hb dX4_sifts_0 ci_0 ?_
  refine lv_istore_n (lv' := [(3, .int 0), (0, .ref st), (1, .ref wa), (2, .ref se)]) hx hb dX4_sifts_1 rfl hl (Nat.le_of_ble_eq_true rfl) rfl (fun ls hl => ?_)
  have loop1 : ∀ (n1 i1 : Nat) (X1 : (Int32) × (Nat → Int32) × (Nat → Int32) × (Nat → Int32) × (Nat → Int32)) (H : Heap) (locs : List Loc) (ls : Array Slot), i1 + n1 = nS → X1 = itN (f_X4_sifts_l2 I J WI) i1 ((I 4), h0, h1, h2, h3) → va_P D vwCl [(st, eST sr (upd I 4 X1.1) L), ((sr 0), aI k 5 X1.2.1), ((sr 1), aI k 5 X1.2.2.1), ((sr 2), aI k 5 X1.2.2.2.1), ((sr 3), aI k 5 X1.2.2.2.2)] H → va_D A [(st, eST sr (upd I 4 X1.1) L), ((sr 0), aI k 5 X1.2.1), ((sr 1), aI k 5 X1.2.2.1), ((sr 2), aI k 5 X1.2.2.2.1), ((sr 3), aI k 5 X1.2.2.2.2)] → va_S A s.heap H locs → lv_has ls 5 [(3, .int (nI i1)), (0, .ref st), (1, .ref wa), (2, .ref se)] → W p l e rm_X4_sifts s m ([.ref st, .ref wa, .ref se] : List Value).toArray below meth c H locs 0 0 (MQ below (q_X4_sifts D k st sr I L h0 h1 h2 h3 se J wa wd WI pr SI OI tn nS nO A) ([.ref st, .ref wa, .ref se] : List Value).toArray s 0 0 A) (F0 m 2 ls []) := by
    intro n1
    induction n1 with
    | zero =>
      intro i1 X1 H locs ls hn1 eX1 hP hD hS hl
      have hi1 : i1 = nS := by omega
      rw [hi1] at eX1
      refine lv_iload_n hx hb dX4_sifts_2 rfl (lv_at hl 0 rfl) ?_
      refine lv_aload_n hx hb dX4_sifts_3 rfl (lv_at hl 2 rfl) ?_
      refine va_get (D := D) (ci := 7) (v := .int (WI 3)) (C := RX9) (T := TX9) (N := 13) hx hb hts in_X9 hown hg.1 (wkat hW hS).1 0 rfl rfl 3 (Nat.le_of_ble_eq_true rfl) (hts _ q502) (fun _ h9 => h9) rfl dX4_sifts_4 ?_
      refine lv_icmp_ge (tgt := 133) hx hb dX4_sifts_7 (by decide) (fun _ => ?_) (fun c => absurd (xle_t hnS rfl (by omega) (by omega)) c)
      exact xret_v hx hb hr hlocks (Nat.le_of_ble_eq_true rfl) (Nat.le_of_ble_eq_true rfl) hS.2.2 dX4_sifts_133 (fun t ht => ⟨⟨(X1.1, X1.2.1, X1.2.2.1, X1.2.2.2.1, X1.2.2.2.2), rfl, (by subst eX1; exact rfl), by rw [ht]; exact hP, hD⟩, hS.F ht⟩)
    | succ n1 ih1 =>
      intro i1 X1 H locs ls hn1 eX1 hP hD hS hl
      have hi1 : i1 < nS := by omega
      refine lv_iload_n hx hb dX4_sifts_2 rfl (lv_at hl 0 rfl) ?_
      refine lv_aload_n hx hb dX4_sifts_3 rfl (lv_at hl 2 rfl) ?_
      refine va_get (D := D) (ci := 7) (v := .int (WI 3)) (C := RX9) (T := TX9) (N := 13) hx hb hts in_X9 hown hg.1 (wkat hW hS).1 0 rfl rfl 3 (Nat.le_of_ble_eq_true rfl) (hts _ q502) (fun _ h9 => h9) rfl dX4_sifts_4 ?_
      refine lv_icmp_ge (tgt := 133) hx hb dX4_sifts_7 (by decide) (fun c => absurd c (xle_f hnS rfl (by omega) (by omega))) (fun _ => ?_)
      refine lv_aload_n hx hb dX4_sifts_10 rfl (lv_at hl 1 rfl) ?_
      refine va_get (D := D) (ci := 3) (v := .ref (sr 0)) (C := RX4) (T := TX4) (N := 18) hx hb hts in_X4 hown hg.1 hP 0 rfl rfl 0 (Nat.le_of_ble_eq_true rfl) (hts _ q233) (fun _ h9 => h9) rfl dX4_sifts_11 ?_
      refine lv_iload_n hx hb dX4_sifts_14 rfl (lv_at hl 0 rfl) ?_
      refine xa_iald hx hb hg hP 1 rfl rfl (by first | omega | exact Nat.lt_of_lt_of_le (Nat.mod_lt _ (by omega)) (by omega)) (by omega) dX4_sifts_15 ?_
      refine lv_bipush (v := 20) hx hb dX4_sifts_16 cb_20 ?_
      refine lv_bipush (v := 10) hx hb dX4_sifts_18 cb_10 ?_
      refine lv_aload_n hx hb dX4_sifts_20 rfl (lv_at hl 3 rfl) ?_
      refine va_get (D := D) (ci := 4) (v := .int (J 1)) (C := RX5) (T := TX5) (N := 3) hx hb hts in_X5 hown hg.1 (wzat hZ hS) 0 rfl rfl 1 (Nat.le_of_ble_eq_true rfl) (hts _ q317) (fun _ h9 => h9) rfl dX4_sifts_21 ?_
      refine lv_imul hx hb dX4_sifts_24 ?_
      refine lv_iadd hx hb dX4_sifts_25 ?_
      refine lv_imul hx hb dX4_sifts_26 ?_
      refine lv_bipush (v := 100) hx hb dX4_sifts_27 cb_100 ?_
      refine lv_idiv hx hb dX4_sifts_29 (by decide) ?_
      refine lv_topi (fun x41 ex41 => ?_)
      refine lv_istore (lv' := [(4, .int x41), (3, .int (nI i1)), (0, .ref st), (1, .ref wa), (2, .ref se)]) hx hb dX4_sifts_30 hl (Nat.le_of_ble_eq_true rfl) rfl (fun ls hl => ?_)
      refine lv_aload_n hx hb dX4_sifts_32 rfl (lv_at hl 2 rfl) ?_
      refine va_get (D := D) (ci := 3) (v := .ref (sr 0)) (C := RX4) (T := TX4) (N := 18) hx hb hts in_X4 hown hg.1 hP 0 rfl rfl 0 (Nat.le_of_ble_eq_true rfl) (hts _ q233) (fun _ h9 => h9) rfl dX4_sifts_33 ?_
      refine lv_iload_n hx hb dX4_sifts_36 rfl (lv_at hl 1 rfl) ?_
      refine lv_dup2_11 hx hb dX4_sifts_37 rfl rfl ?_
      refine xa_iald hx hb hg hP 1 rfl rfl (by first | omega | exact Nat.lt_of_lt_of_le (Nat.mod_lt _ (by omega)) (by omega)) (by omega) dX4_sifts_38 ?_
      refine lv_iload hx hb dX4_sifts_39 (lv_at hl 0 rfl) ?_
      refine lv_isub hx hb dX4_sifts_41 ?_
      refine lv_topi (fun x42 ex42 => ?_)
      refine xa_iast hx hb hg hP hD hS 1 rfl rfl (by omega) (by omega) dX4_sifts_42 (fun f43 H locs ef43 hP hD hS => ?_)
      replace hP : va_P D vwCl [(st, eST sr (upd I 4 X1.1) L), ((sr 0), aI k 5 f43), ((sr 1), aI k 5 X1.2.2.1), ((sr 2), aI k 5 X1.2.2.2.1), ((sr 3), aI k 5 X1.2.2.2.2)] H := hP
      replace hD : va_D A [(st, eST sr (upd I 4 X1.1) L), ((sr 0), aI k 5 f43), ((sr 1), aI k 5 X1.2.2.1), ((sr 2), aI k 5 X1.2.2.2.1), ((sr 3), aI k 5 X1.2.2.2.2)] := hD
      refine lv_aload_n hx hb dX4_sifts_43 rfl (lv_at hl 2 rfl) ?_
      refine va_get (D := D) (ci := 3) (v := .ref (sr 2)) (C := RX4) (T := TX4) (N := 18) hx hb hts in_X4 hown hg.1 hP 0 rfl rfl 2 (Nat.le_of_ble_eq_true rfl) (hts _ q237) (fun _ h9 => h9) rfl dX4_sifts_44 ?_
      refine lv_iload_n hx hb dX4_sifts_47 rfl (lv_at hl 1 rfl) ?_
      refine lv_iload_n hx hb dX4_sifts_48 rfl (lv_at hl 1 rfl) ?_
      refine lv_aload_n hx hb dX4_sifts_49 rfl (lv_at hl 3 rfl) ?_
      refine va_get (D := D) (ci := 7) (v := .int (WI 8)) (C := RX9) (T := TX9) (N := 13) hx hb hts in_X9 hown hg.1 (wkat hW hS).1 0 rfl rfl 8 (Nat.le_of_ble_eq_true rfl) (hts _ q521) (fun _ h9 => h9) rfl dX4_sifts_50 ?_
      have Jn4 : ∀ (v46 : (Int32)) (H : Heap) (locs : List Loc) (ls : Array Slot), v46 = f_X4_sifts_j4 I WI i1 x41 → va_P D vwCl [(st, eST sr (upd I 4 X1.1) L), ((sr 0), aI k 5 f43), ((sr 1), aI k 5 X1.2.2.1), ((sr 2), aI k 5 X1.2.2.2.1), ((sr 3), aI k 5 X1.2.2.2.2)] H → va_D A [(st, eST sr (upd I 4 X1.1) L), ((sr 0), aI k 5 f43), ((sr 1), aI k 5 X1.2.2.1), ((sr 2), aI k 5 X1.2.2.2.1), ((sr 3), aI k 5 X1.2.2.2.2)] → va_S A s.heap H locs → lv_has ls 5 [(4, .int x41), (3, .int (nI i1)), (0, .ref st), (1, .ref wa), (2, .ref se)] → W p l e rm_X4_sifts s m ([.ref st, .ref wa, .ref se] : List Value).toArray below meth c H locs 0 0 (MQ below (q_X4_sifts D k st sr I L h0 h1 h2 h3 se J wa wd WI pr SI OI tn nS nO A) ([.ref st, .ref wa, .ref se] : List Value).toArray s 0 0 A) (F0 m 81 ls [.int v46, .int (nI i1), .ref (sr 2)]) := by
        intro v46 H locs ls ev46 hP hD hS hl
        refine xa_iast hx hb hg hP hD hS 3 rfl rfl (by omega) (by omega) dX4_sifts_81 (fun f47 H locs ef47 hP hD hS => ?_)
        replace hP : va_P D vwCl [(st, eST sr (upd I 4 X1.1) L), ((sr 0), aI k 5 f43), ((sr 1), aI k 5 X1.2.2.1), ((sr 2), aI k 5 f47), ((sr 3), aI k 5 X1.2.2.2.2)] H := hP
        replace hD : va_D A [(st, eST sr (upd I 4 X1.1) L), ((sr 0), aI k 5 f43), ((sr 1), aI k 5 X1.2.2.1), ((sr 2), aI k 5 f47), ((sr 3), aI k 5 X1.2.2.2.2)] := hD
        refine lv_aload_n hx hb dX4_sifts_82 rfl (lv_at hl 2 rfl) ?_
        refine va_get (D := D) (ci := 3) (v := .ref (sr 1)) (C := RX4) (T := TX4) (N := 18) hx hb hts in_X4 hown hg.1 hP 0 rfl rfl 1 (Nat.le_of_ble_eq_true rfl) (hts _ q235) (fun _ h9 => h9) rfl dX4_sifts_83 ?_
        refine lv_iload_n hx hb dX4_sifts_86 rfl (lv_at hl 1 rfl) ?_
        refine lv_iload hx hb dX4_sifts_87 (lv_at hl 0 rfl) ?_
        refine lv_aload_n hx hb dX4_sifts_89 rfl (lv_at hl 2 rfl) ?_
        refine va_get (D := D) (ci := 3) (v := .ref (sr 2)) (C := RX4) (T := TX4) (N := 18) hx hb hts in_X4 hown hg.1 hP 0 rfl rfl 2 (Nat.le_of_ble_eq_true rfl) (hts _ q237) (fun _ h9 => h9) rfl dX4_sifts_90 ?_
        refine lv_iload_n hx hb dX4_sifts_93 rfl (lv_at hl 1 rfl) ?_
        refine xa_iald hx hb hg hP 3 rfl rfl (by first | omega | exact Nat.lt_of_lt_of_le (Nat.mod_lt _ (by omega)) (by omega)) (by omega) dX4_sifts_94 ?_
        refine lv_isub hx hb dX4_sifts_95 ?_
        refine lv_topi (fun x48 ex48 => ?_)
        refine xa_iast hx hb hg hP hD hS 2 rfl rfl (by omega) (by omega) dX4_sifts_96 (fun f49 H locs ef49 hP hD hS => ?_)
        replace hP : va_P D vwCl [(st, eST sr (upd I 4 X1.1) L), ((sr 0), aI k 5 f43), ((sr 1), aI k 5 f49), ((sr 2), aI k 5 f47), ((sr 3), aI k 5 X1.2.2.2.2)] H := hP
        replace hD : va_D A [(st, eST sr (upd I 4 X1.1) L), ((sr 0), aI k 5 f43), ((sr 1), aI k 5 f49), ((sr 2), aI k 5 f47), ((sr 3), aI k 5 X1.2.2.2.2)] := hD
        refine lv_aload_n hx hb dX4_sifts_97 rfl (lv_at hl 2 rfl) ?_
        refine va_get (D := D) (ci := 3) (v := .ref (sr 3)) (C := RX4) (T := TX4) (N := 18) hx hb hts in_X4 hown hg.1 hP 0 rfl rfl 3 (Nat.le_of_ble_eq_true rfl) (hts _ q239) (fun _ h9 => h9) rfl dX4_sifts_98 ?_
        refine lv_iload_n hx hb dX4_sifts_101 rfl (lv_at hl 1 rfl) ?_
        refine lv_dup2_11 hx hb dX4_sifts_102 rfl rfl ?_
        refine xa_iald hx hb hg hP 4 rfl rfl (by first | omega | exact Nat.lt_of_lt_of_le (Nat.mod_lt _ (by omega)) (by omega)) (by omega) dX4_sifts_103 ?_
        refine lv_aload_n hx hb dX4_sifts_104 rfl (lv_at hl 2 rfl) ?_
        refine va_get (D := D) (ci := 3) (v := .ref (sr 2)) (C := RX4) (T := TX4) (N := 18) hx hb hts in_X4 hown hg.1 hP 0 rfl rfl 2 (Nat.le_of_ble_eq_true rfl) (hts _ q237) (fun _ h9 => h9) rfl dX4_sifts_105 ?_
        refine lv_iload_n hx hb dX4_sifts_108 rfl (lv_at hl 1 rfl) ?_
        refine xa_iald hx hb hg hP 3 rfl rfl (by first | omega | exact Nat.lt_of_lt_of_le (Nat.mod_lt _ (by omega)) (by omega)) (by omega) dX4_sifts_109 ?_
        refine lv_iadd hx hb dX4_sifts_110 ?_
        refine lv_topi (fun x50 ex50 => ?_)
        refine xa_iast hx hb hg hP hD hS 4 rfl rfl (by omega) (by omega) dX4_sifts_111 (fun f51 H locs ef51 hP hD hS => ?_)
        replace hP : va_P D vwCl [(st, eST sr (upd I 4 X1.1) L), ((sr 0), aI k 5 f43), ((sr 1), aI k 5 f49), ((sr 2), aI k 5 f47), ((sr 3), aI k 5 f51)] H := hP
        replace hD : va_D A [(st, eST sr (upd I 4 X1.1) L), ((sr 0), aI k 5 f43), ((sr 1), aI k 5 f49), ((sr 2), aI k 5 f47), ((sr 3), aI k 5 f51)] := hD
        refine lv_aload_n hx hb dX4_sifts_112 rfl (lv_at hl 2 rfl) ?_
        refine lv_dup hx hb dX4_sifts_113 rfl ?_
        refine va_get (D := D) (ci := 3) (v := .int X1.1) (C := RX4) (T := TX4) (N := 18) hx hb hts in_X4 hown hg.1 hP 0 rfl rfl 4 (Nat.le_of_ble_eq_true rfl) (hts _ q241) (fun _ h9 => h9) rfl dX4_sifts_114 ?_
        refine lv_aload_n hx hb dX4_sifts_117 rfl (lv_at hl 2 rfl) ?_
        refine va_get (D := D) (ci := 3) (v := .ref (sr 2)) (C := RX4) (T := TX4) (N := 18) hx hb hts in_X4 hown hg.1 hP 0 rfl rfl 2 (Nat.le_of_ble_eq_true rfl) (hts _ q237) (fun _ h9 => h9) rfl dX4_sifts_118 ?_
        refine lv_iload_n hx hb dX4_sifts_121 rfl (lv_at hl 1 rfl) ?_
        refine xa_iald hx hb hg hP 3 rfl rfl (by first | omega | exact Nat.lt_of_lt_of_le (Nat.mod_lt _ (by omega)) (by omega)) (by omega) dX4_sifts_122 ?_
        refine lv_iadd hx hb dX4_sifts_123 ?_
        refine lv_topi (fun x52 ex52 => ?_)
        refine va_put (D := D) (ci := 3) (v := .int x52) (C := RX4) (T := TX4) (N := 18) hx hb hts in_X4 tyX4 tyX4_ok nmX4 hown hg.1 hP hD hS 0 rfl rfl 4 (Nat.le_of_ble_eq_true rfl) (hts _ q241) (fun _ h9 => h9) rfl ftX4_4 rfl rfl (Nat.le_of_ble_eq_true rfl) dX4_sifts_124 (fun H locs hP hD hS => ?_)
        replace hP : va_P D vwCl [(st, eST sr (upd I 4 x52) L), ((sr 0), aI k 5 f43), ((sr 1), aI k 5 f49), ((sr 2), aI k 5 f47), ((sr 3), aI k 5 f51)] H := hP
        replace hD : va_D A [(st, eST sr (upd I 4 x52) L), ((sr 0), aI k 5 f43), ((sr 1), aI k 5 f49), ((sr 2), aI k 5 f47), ((sr 3), aI k 5 f51)] := hD
        refine lv_iinc (v := (nI (i1 + 1))) (lv' := [(3, .int (nI (i1 + 1))), (4, .int x41), (0, .ref st), (1, .ref wa), (2, .ref se)]) hx hb dX4_sifts_127 hl (k := 1) rfl (xinc1 _) (Nat.le_of_ble_eq_true rfl) rfl (fun ls hl => ?_)
        refine lv_goto (tgt := 2) hx hb dX4_sifts_130 (by decide) ?_
        exact ih1 (i1 + 1) (x52, f43, f49, f47, f51) _ _ _ (by omega) (Eq.trans (by subst ex52; subst ef51; subst ex50; subst ef49; subst ex48; subst ef47; subst ev46; subst ef43; subst ex42; subst ex41; exact rfl) (congrArg (f_X4_sifts_l2 I J WI i1) eX1)) hP hD hS (lv_sub hl [0, 2, 3, 4] rfl)
      refine lv_icmp_ge (tgt := 79) hx hb dX4_sifts_53 (by decide) (fun c53 => ?_) (fun c53 => ?_)
      · refine lv_iload hx hb dX4_sifts_79 (lv_at hl 0 rfl) ?_
        exact Jn4 x41 _ _ _ (by exact Eq.symm (Eq.trans (if_pos c53) (rfl))) hP hD hS (lv_sub hl [0, 1, 2, 3, 4] rfl)
      · refine lv_iload hx hb dX4_sifts_56 (lv_at hl 0 rfl) ?_
        refine lv_bipush (v := 100) hx hb dX4_sifts_58 cb_100 ?_
        refine lv_aload_n hx hb dX4_sifts_60 rfl (lv_at hl 2 rfl) ?_
        refine va_get (D := D) (ci := 3) (v := .int (I 9)) (C := RX4) (T := TX4) (N := 18) hx hb hts in_X4 hown hg.1 hP 0 rfl rfl 9 (Nat.le_of_ble_eq_true rfl) (hts _ q251) (fun _ h9 => h9) rfl dX4_sifts_61 ?_
        refine lv_aload_n hx hb dX4_sifts_64 rfl (lv_at hl 3 rfl) ?_
        refine va_get (D := D) (ci := 7) (v := .int (WI 9)) (C := RX9) (T := TX9) (N := 13) hx hb hts in_X9 hown hg.1 (wkat hW hS).1 0 rfl rfl 9 (Nat.le_of_ble_eq_true rfl) (hts _ q525) (fun _ h9 => h9) rfl dX4_sifts_65 ?_
        refine lv_imul hx hb dX4_sifts_68 ?_
        refine va_mmin hx hb (by rw [hml]; exact hl.1.symm) hown (hts _ q927) (hts _ q921) (hts _ q104) (hts _ q922) (Nat.le_of_ble_eq_true rfl) (Nat.le_of_ble_eq_true rfl) (Nat.le_of_ble_eq_true rfl) (Nat.le_of_ble_eq_true rfl) dX4_sifts_69 ?_
        refine lv_imul hx hb dX4_sifts_72 ?_
        refine lv_bipush (v := 100) hx hb dX4_sifts_73 cb_100 ?_
        refine lv_idiv hx hb dX4_sifts_75 (by decide) ?_
        refine lv_goto (tgt := 81) hx hb dX4_sifts_76 (by decide) ?_
        exact Jn4 ((x41 * (if ((I 9) * (WI 9)) < 100 then ((I 9) * (WI 9)) else 100)) / 100) _ _ _ (by exact Eq.symm (Eq.trans (if_neg c53) (rfl))) hP hD hS (lv_sub hl [0, 1, 2, 3, 4] rfl)
  exact loop1 nS 0 ((I 4), h0, h1, h2, h3) _ _ _ (by omega) rfl hP hD hS (by have h := (lv_sub hl [0, 1, 2, 3] rfl); exact h)

def f_X4_hour_j4 (I : Nat → Int32) (h3 : Nat → Int32) (J : Nat → Int32) (WI : Nat → Int32) (SI : Nat → Nat → Int32) (nS : Nat) (u1 : Int32 × Int32 × (Nat → Int32) × (Nat → Int32) × (Nat → Int32)) (v4 : (Int32)) (v9 : (Int32)) (v12 : (Int32)) : (Int32) × (Int32) × (Nat → Int32) × (Nat → Int32) × (Nat → Int32) × (Nat → Int32) :=
  if v4 = 0 then
    let u34 := f_X4_grinds (upd (upd (upd (upd (upd I 11 u1.1) 15 u1.2.1) 17 v4) 12 v9) 13 v12) u1.2.2.1 WI SI nS
    let u35 := f_X4_sifts (upd (upd (upd (upd (upd I 11 u1.1) 15 u1.2.1) 17 v4) 12 v9) 13 v12) u34 u1.2.2.2.1 u1.2.2.2.2 h3 J WI nS
    (u35.1, (I 5), u35.2.1, u35.2.2.1, u35.2.2.2.1, u35.2.2.2.2)
  else
    let u36 := f_X4_digs (upd (upd (upd (upd (upd I 11 u1.1) 15 u1.2.1) 17 v4) 12 v9) 13 v12) u1.2.2.1 nS
    ((I 4), u36.1, u36.2, u1.2.2.2.1, u1.2.2.2.2, h3)
def f_X4_hour_j3 (u1 : Int32 × Int32 × (Nat → Int32) × (Nat → Int32) × (Nat → Int32)) (v4 : (Int32)) (v9 : (Int32)) : (Int32) :=
  if v4 = 0 then
    ((u1.1 * v9) / 100)
  else
    0
def f_X4_hour_j2 (I : Nat → Int32) (ore : Nat) (WI : Nat → Int32) (OI : Nat → Nat → Int32) (u1 : Int32 × Int32 × (Nat → Int32) × (Nat → Int32) × (Nat → Int32)) (v4 : (Int32)) : (Int32) :=
  if v4 = 0 then
    let u39 := f_X4_effectOf (upd (upd (upd I 11 u1.1) 15 u1.2.1) 17 v4) ore WI OI
    u39
  else
    0
def f_X4_hour_j1 (WI : Nat → Int32) (u1 : Int32 × Int32 × (Nat → Int32) × (Nat → Int32) × (Nat → Int32)) : (Int32) :=
  if u1.1 ≤ (WI 6) then
    0
  else
    1
def f_X4_hour (I : Nat → Int32) (L : Nat → Int64) (h0 : Nat → Int32) (h1 : Nat → Int32) (h2 : Nat → Int32) (h3 : Nat → Int32) (ore : Nat) (nP : Nat) (now : Nat) (J : Nat → Int32) (WI : Nat → Int32) (pr : Nat → Int32) (SI : Nat → Nat → Int32) (OI : Nat → Nat → Int32) (tn : Nat → Nat → Int32) (nS : Nat) : Int32 × Int32 × Int32 × Int32 × Int32 × Int32 × Int32 × Int32 × Int32 × Int32 × Int32 × Int64 × Int32 × (Nat → Int32) × (Nat → Int32) × (Nat → Int32) × (Nat → Int32) :=
  let u1 := f_X4_comes I h0 h1 h2 ore J tn nS
  let v4 := f_X4_hour_j1 WI u1
  let v9 := f_X4_hour_j2 I ore WI OI u1 v4
  let v12 := f_X4_hour_j3 u1 v4 v9
  let v21 := f_X4_hour_j4 I h3 J WI SI nS u1 v4 v9 v12
  let x22 := (if 0 < (v21.1 - (WI 11)) then (v21.1 - (WI 11)) else 0)
  let x23 := (v21.1 - x22)
  let x24 := (v21.2.1 + x22)
  let x25 := (if x23 < (WI 12) then x23 else (WI 12))
  let x26 := (x23 - x25)
  let x27 := ((I 6) + x25)
  let x28 := ((I 7) + ((WI 12) - x25))
  let x29 := (if 0 < ((WI 7) - (((WI 7) * u1.1) / (WI 6))) then ((WI 7) - (((WI 7) * u1.1) / (WI 6))) else 0)
  let x30 := ((L 16) + ((v12.toInt64) * ((pr (now % nP)).toInt64)))
  let x31 := ((I 8) + 1)
  let x32 := ((I 10) + 1)
  (x26, x24, x27, x28, x31, x32, u1.1, v9, v12, x29, u1.2.1, x30, v4, v21.2.2.1, v21.2.2.2.1, v21.2.2.2.2.1, v21.2.2.2.2.2)
abbrev q_X4_hour (D : va_G) (k : KK) (st : Nat) (sr : Nat → Nat) (I : Nat → Int32) (L : Nat → Int64) (h0 : Nat → Int32) (h1 : Nat → Int32) (h2 : Nat → Int32) (h3 : Nat → Int32) (ore : Nat) (nP : Nat) (now : Nat) (se : Nat) (J : Nat → Int32) (wa : Nat) (wd : WAd) (WI : Nat → Int32) (pr : Nat → Int32) (SI : Nat → Nat → Int32) (OI : Nat → Nat → Int32) (tn : Nat → Nat → Int32) (nS : Nat) (nO : Nat) (A : Nat → Prop) : Array Value → State → Outcome → State → Prop := va_Qv (fun (u : Int32 × Int32 × Int32 × Int32 × Int32 × Int32 × Int32 × Int32 × Int32 × Int32 × Int32 × Int64 × Int32 × (Nat → Int32) × (Nat → Int32) × (Nat → Int32) × (Nat → Int32)) => u = f_X4_hour I L h0 h1 h2 h3 ore nP now J WI pr SI OI tn nS ∧ (u.2.2.2.2.2.2.2.2.2.2.2.2.1 = 0 ∨ u.2.2.2.2.2.2.2.2.2.2.2.2.1 = 1)) (bx D (fun u => [(st, eST sr (upd (upd (upd (upd (upd (upd (upd (upd (upd (upd (upd (upd I 4 u.1) 5 u.2.1) 6 u.2.2.1) 7 u.2.2.2.1) 8 u.2.2.2.2.1) 10 u.2.2.2.2.2.1) 11 u.2.2.2.2.2.2.1) 12 u.2.2.2.2.2.2.2.1) 13 u.2.2.2.2.2.2.2.2.1) 14 u.2.2.2.2.2.2.2.2.2.1) 15 u.2.2.2.2.2.2.2.2.2.2.1) 17 u.2.2.2.2.2.2.2.2.2.2.2.2.1) (vp_updL L 16 u.2.2.2.2.2.2.2.2.2.2.2.1)), ((sr 0), aI k 5 u.2.2.2.2.2.2.2.2.2.2.2.2.2.1), ((sr 1), aI k 5 u.2.2.2.2.2.2.2.2.2.2.2.2.2.2.1), ((sr 2), aI k 5 u.2.2.2.2.2.2.2.2.2.2.2.2.2.2.2.1), ((sr 3), aI k 5 u.2.2.2.2.2.2.2.2.2.2.2.2.2.2.2.2)]) A) A
abbrev rm_X4_hour : Room := { frames := 3, cells := 0, slots := 0, locals := 120 }
theorem xo_X4_hour : xok yX4_hour 3 := by unfold xok; decide +kernel
set_option maxHeartbeats 8000000 in
theorem m_X4_hour (l : Launch) (D : va_G) (k : KK) (sz : Nat) (st : Nat) (sr : Nat → Nat) (I : Nat → Int32) (L : Nat → Int64) (h0 : Nat → Int32) (h1 : Nat → Int32) (h2 : Nat → Int32) (h3 : Nat → Int32) (ore : Nat) (nP : Nat) (now : Nat) (se : Nat) (J : Nat → Int32) (wa : Nat) (wd : WAd) (WI : Nat → Int32) (pr : Nat → Int32) (SI : Nat → Nat → Int32) (OI : Nat → Nat → Int32) (tn : Nat → Nat → Int32) (nS : Nat) (nO : Nat) (hnS : WI 3 = nI nS) (hnO : WI 4 = nI nO) (hS2 : 2 ≤ nS) (hS5 : nS ≤ 5) (hO4 : nO ≤ 4) (hJ2 : J 2 = nI ore) (hore : ore < nO) (hroom : ¬ WI 6 = 0) (hlife : ¬ WI 10 = 0) (hhard : ¬ 9 + OI ore 1 = 0) (hpr : WI 5 = nI nP) (hP1 : 1 ≤ nP) (hP6 : nP ≤ 6) (hnow : I 10 = nI now) (hnb : now < 1000) : Met l yX4_hour (ws_ yX4_hour cX4_hour 6 none) rm_X4_hour (pcx D k [.ref st, .ref wa, .ref se, .null] sz [(st, eST sr I L), ((sr 0), aI k 5 h0), ((sr 1), aI k 5 h1), ((sr 2), aI k 5 h2), ((sr 3), aI k 5 h3)] (wkZ D k wa wd WI pr SI OI tn nS nO se J (va_A [(st, eST sr I L), ((sr 0), aI k 5 h0), ((sr 1), aI k 5 h1), ((sr 2), aI k 5 h2), ((sr 3), aI k 5 h3)] sz))) (q_X4_hour D k st sr I L h0 h1 h2 h3 ore nP now se J wa wd WI pr SI OI tn nS nO (va_A [(st, eST sr I L), ((sr 0), aI k 5 h0), ((sr 1), aI k 5 h1), ((sr 2), aI k 5 h2), ((sr 3), aI k 5 h3)] sz)) 0 0 (va_A [(st, eST sr I L), ((sr 0), aI k 5 h0), ((sr 1), aI k 5 h1), ((sr 2), aI k 5 h2), ((sr 3), aI k 5 h3)] sz) := by
  refine Met.start (Qc := q_X4_hour D k st sr I L h0 h1 h2 h3 ore nP now se J wa wd WI pr SI OI tn nS nO) (by decide) (Nat.le_of_ble_eq_true rfl) ?_
  intro p e s m below meth c A hx hb hr hlocks hml hown hin hts hg hP hD hA hAn hS hY hsz ls hl
  have hown : s.vm.findClass RX4 = some m.cls := hown
  have hl : lv_has ls 6 [(0, .ref st), (1, .ref wa), (2, .ref se), (3, .null)] := hl
  have hZ := wkZ.mono hY hAn
  have hW := hZ.1
  refine lv_aload_n hx hb dX4_hour_0 rfl (lv_at hl 0 rfl) ?_
  refine lv_aload_n hx hb dX4_hour_1 rfl (lv_at hl 1 rfl) ?_
  refine lv_aload_n hx hb dX4_hour_2 rfl (lv_at hl 2 rfl) ?_
  refine xc_v (wc := [(st, eST sr I L), ((sr 0), aI k 5 h0), ((sr 1), aI k 5 h1), ((sr 2), aI k 5 h2), ((sr 3), aI k 5 h3)]) (wr := []) hP hD hS hA [0, 1, 2, 3, 4] [] rfl rfl rfl (by decide) (xrV ⟨hx, hb, hml, hown, hts⟩ hg (m_X4_comes l D k _ st sr I L h0 h1 h2 h3 ore se J wa wd WI pr SI OI tn nS nO hnS hnO hS2 hS5 hO4 hJ2 hore) hP hD [0, 1, 2, 3, 4] rfl rfl (wzcall hZ hS (va_free (wc := [(st, eST sr I L), ((sr 0), aI k 5 h0), ((sr 1), aI k 5 h1), ((sr 2), aI k 5 h2), ((sr 3), aI k 5 h3)]) hD hS hA [0, 1, 2, 3, 4] rfl)) (ci := 3) (q0 := 0) rfl rfl rfl q897 q899 qs22 q89 q900 xo_X4_comes ⟨rfl, rfl⟩ ⟨Nat.le_of_ble_eq_true rfl, Nat.le_of_ble_eq_true rfl⟩ hl.1 (Nat.le_of_ble_eq_true rfl) dX4_hour_3 ⟨Nat.le_of_ble_eq_true rfl, Nat.le_of_ble_eq_true rfl⟩ rfl) (fun u1 H locs hw hP hD hS hk => ?_)
  have eu1 := hw
  replace hP : va_P D vwCl [(st, eST sr (upd (upd I 11 u1.1) 15 u1.2.1) L), ((sr 0), aI k 5 u1.2.2.1), ((sr 1), aI k 5 u1.2.2.2.1), ((sr 2), aI k 5 u1.2.2.2.2), ((sr 3), aI k 5 h3)] H := hP.sub [0, 1, 2, 3, 4] rfl
  replace hD : va_D A [(st, eST sr (upd (upd I 11 u1.1) 15 u1.2.1) L), ((sr 0), aI k 5 u1.2.2.1), ((sr 1), aI k 5 u1.2.2.2.1), ((sr 2), aI k 5 u1.2.2.2.2), ((sr 3), aI k 5 h3)] := hD.sub [0, 1, 2, 3, 4] (by decide) rfl
  refine lv_aload_n hx hb dX4_hour_6 rfl (lv_at hl 0 rfl) ?_
  refine lv_aload_n hx hb dX4_hour_7 rfl (lv_at hl 0 rfl) ?_
  refine va_get (D := D) (ci := 3) (v := .int u1.1) (C := RX4) (T := TX4) (N := 18) hx hb hts in_X4 hown hg.1 hP 0 rfl rfl 11 (Nat.le_of_ble_eq_true rfl) (hts _ q255) (fun _ h9 => h9) rfl dX4_hour_8 ?_
  refine lv_aload_n hx hb dX4_hour_11 rfl (lv_at hl 1 rfl) ?_
  refine va_get (D := D) (ci := 7) (v := .int (WI 6)) (C := RX9) (T := TX9) (N := 13) hx hb hts in_X9 hown hg.1 (wkat hW hS).1 0 rfl rfl 6 (Nat.le_of_ble_eq_true rfl) (hts _ q513) (fun _ h9 => h9) rfl dX4_hour_12 ?_
  have Jn1 : ∀ (v4 : (Int32)) (H : Heap) (locs : List Loc) (ls : Array Slot), v4 = f_X4_hour_j1 WI u1 → (v4 = 0 ∨ v4 = 1) → va_P D vwCl [(st, eST sr (upd (upd I 11 u1.1) 15 u1.2.1) L), ((sr 0), aI k 5 u1.2.2.1), ((sr 1), aI k 5 u1.2.2.2.1), ((sr 2), aI k 5 u1.2.2.2.2), ((sr 3), aI k 5 h3)] H → va_D A [(st, eST sr (upd (upd I 11 u1.1) 15 u1.2.1) L), ((sr 0), aI k 5 u1.2.2.1), ((sr 1), aI k 5 u1.2.2.2.1), ((sr 2), aI k 5 u1.2.2.2.2), ((sr 3), aI k 5 h3)] → va_S A s.heap H locs → lv_has ls 6 [(0, .ref st), (1, .ref wa), (2, .ref se), (3, .null)] → W p l e rm_X4_hour s m ([.ref st, .ref wa, .ref se, .null] : List Value).toArray below meth c H locs 0 0 (MQ below (q_X4_hour D k st sr I L h0 h1 h2 h3 ore nP now se J wa wd WI pr SI OI tn nS nO A) ([.ref st, .ref wa, .ref se, .null] : List Value).toArray s 0 0 A) (F0 m 23 ls [.int v4, .ref st]) := by
    intro v4 H locs ls ev4 bv4_0 hP hD hS hl
    refine va_put (D := D) (ci := 3) (v := .int v4) (C := RX4) (T := TX4) (N := 18) hx hb hts in_X4 tyX4 tyX4_ok nmX4 hown hg.1 hP hD hS 0 rfl rfl 17 (Nat.le_of_ble_eq_true rfl) (hts _ q267) (fun _ h9 => h9) rfl ftX4_17 (x01n bv4_0) (x01f bv4_0) (Nat.le_of_ble_eq_true rfl) dX4_hour_23 (fun H locs hP hD hS => ?_)
    replace hP : va_P D vwCl [(st, eST sr (upd (upd (upd I 11 u1.1) 15 u1.2.1) 17 v4) L), ((sr 0), aI k 5 u1.2.2.1), ((sr 1), aI k 5 u1.2.2.2.1), ((sr 2), aI k 5 u1.2.2.2.2), ((sr 3), aI k 5 h3)] H := hP
    replace hD : va_D A [(st, eST sr (upd (upd (upd I 11 u1.1) 15 u1.2.1) 17 v4) L), ((sr 0), aI k 5 u1.2.2.1), ((sr 1), aI k 5 u1.2.2.2.1), ((sr 2), aI k 5 u1.2.2.2.2), ((sr 3), aI k 5 h3)] := hD
    refine lv_aload_n hx hb dX4_hour_26 rfl (lv_at hl 0 rfl) ?_
    refine lv_aload_n hx hb dX4_hour_27 rfl (lv_at hl 0 rfl) ?_
    refine va_get (D := D) (ci := 3) (v := .int v4) (C := RX4) (T := TX4) (N := 18) hx hb hts in_X4 hown hg.1 hP 0 rfl rfl 17 (Nat.le_of_ble_eq_true rfl) (hts _ q267) (fun _ h9 => h9) rfl dX4_hour_28 ?_
    have Jn2 : ∀ (v9 : (Int32)) (H : Heap) (locs : List Loc) (ls : Array Slot), v9 = f_X4_hour_j2 I ore WI OI u1 v4 → va_P D vwCl [(st, eST sr (upd (upd (upd I 11 u1.1) 15 u1.2.1) 17 v4) L), ((sr 0), aI k 5 u1.2.2.1), ((sr 1), aI k 5 u1.2.2.2.1), ((sr 2), aI k 5 u1.2.2.2.2), ((sr 3), aI k 5 h3)] H → va_D A [(st, eST sr (upd (upd (upd I 11 u1.1) 15 u1.2.1) 17 v4) L), ((sr 0), aI k 5 u1.2.2.1), ((sr 1), aI k 5 u1.2.2.2.1), ((sr 2), aI k 5 u1.2.2.2.2), ((sr 3), aI k 5 h3)] → va_S A s.heap H locs → lv_has ls 6 [(0, .ref st), (1, .ref wa), (2, .ref se), (3, .null)] → W p l e rm_X4_hour s m ([.ref st, .ref wa, .ref se, .null] : List Value).toArray below meth c H locs 0 0 (MQ below (q_X4_hour D k st sr I L h0 h1 h2 h3 ore nP now se J wa wd WI pr SI OI tn nS nO A) ([.ref st, .ref wa, .ref se, .null] : List Value).toArray s 0 0 A) (F0 m 44 ls [.int v9, .ref st]) := by
      intro v9 H locs ls ev9 hP hD hS hl
      refine va_put (D := D) (ci := 3) (v := .int v9) (C := RX4) (T := TX4) (N := 18) hx hb hts in_X4 tyX4 tyX4_ok nmX4 hown hg.1 hP hD hS 0 rfl rfl 12 (Nat.le_of_ble_eq_true rfl) (hts _ q257) (fun _ h9 => h9) rfl ftX4_12 rfl rfl (Nat.le_of_ble_eq_true rfl) dX4_hour_44 (fun H locs hP hD hS => ?_)
      replace hP : va_P D vwCl [(st, eST sr (upd (upd (upd (upd I 11 u1.1) 15 u1.2.1) 17 v4) 12 v9) L), ((sr 0), aI k 5 u1.2.2.1), ((sr 1), aI k 5 u1.2.2.2.1), ((sr 2), aI k 5 u1.2.2.2.2), ((sr 3), aI k 5 h3)] H := hP
      replace hD : va_D A [(st, eST sr (upd (upd (upd (upd I 11 u1.1) 15 u1.2.1) 17 v4) 12 v9) L), ((sr 0), aI k 5 u1.2.2.1), ((sr 1), aI k 5 u1.2.2.2.1), ((sr 2), aI k 5 u1.2.2.2.2), ((sr 3), aI k 5 h3)] := hD
      refine lv_aload_n hx hb dX4_hour_47 rfl (lv_at hl 0 rfl) ?_
      refine lv_aload_n hx hb dX4_hour_48 rfl (lv_at hl 0 rfl) ?_
      refine va_get (D := D) (ci := 3) (v := .int v4) (C := RX4) (T := TX4) (N := 18) hx hb hts in_X4 hown hg.1 hP 0 rfl rfl 17 (Nat.le_of_ble_eq_true rfl) (hts _ q267) (fun _ h9 => h9) rfl dX4_hour_49 ?_
      have Jn3 : ∀ (v12 : (Int32)) (H : Heap) (locs : List Loc) (ls : Array Slot), v12 = f_X4_hour_j3 u1 v4 v9 → va_P D vwCl [(st, eST sr (upd (upd (upd (upd I 11 u1.1) 15 u1.2.1) 17 v4) 12 v9) L), ((sr 0), aI k 5 u1.2.2.1), ((sr 1), aI k 5 u1.2.2.2.1), ((sr 2), aI k 5 u1.2.2.2.2), ((sr 3), aI k 5 h3)] H → va_D A [(st, eST sr (upd (upd (upd (upd I 11 u1.1) 15 u1.2.1) 17 v4) 12 v9) L), ((sr 0), aI k 5 u1.2.2.1), ((sr 1), aI k 5 u1.2.2.2.1), ((sr 2), aI k 5 u1.2.2.2.2), ((sr 3), aI k 5 h3)] → va_S A s.heap H locs → lv_has ls 6 [(0, .ref st), (1, .ref wa), (2, .ref se), (3, .null)] → W p l e rm_X4_hour s m ([.ref st, .ref wa, .ref se, .null] : List Value).toArray below meth c H locs 0 0 (MQ below (q_X4_hour D k st sr I L h0 h1 h2 h3 ore nP now se J wa wd WI pr SI OI tn nS nO A) ([.ref st, .ref wa, .ref se, .null] : List Value).toArray s 0 0 A) (F0 m 71 ls [.int v12, .ref st]) := by
        intro v12 H locs ls ev12 hP hD hS hl
        refine va_put (D := D) (ci := 3) (v := .int v12) (C := RX4) (T := TX4) (N := 18) hx hb hts in_X4 tyX4 tyX4_ok nmX4 hown hg.1 hP hD hS 0 rfl rfl 13 (Nat.le_of_ble_eq_true rfl) (hts _ q259) (fun _ h9 => h9) rfl ftX4_13 rfl rfl (Nat.le_of_ble_eq_true rfl) dX4_hour_71 (fun H locs hP hD hS => ?_)
        replace hP : va_P D vwCl [(st, eST sr (upd (upd (upd (upd (upd I 11 u1.1) 15 u1.2.1) 17 v4) 12 v9) 13 v12) L), ((sr 0), aI k 5 u1.2.2.1), ((sr 1), aI k 5 u1.2.2.2.1), ((sr 2), aI k 5 u1.2.2.2.2), ((sr 3), aI k 5 h3)] H := hP
        replace hD : va_D A [(st, eST sr (upd (upd (upd (upd (upd I 11 u1.1) 15 u1.2.1) 17 v4) 12 v9) 13 v12) L), ((sr 0), aI k 5 u1.2.2.1), ((sr 1), aI k 5 u1.2.2.2.1), ((sr 2), aI k 5 u1.2.2.2.2), ((sr 3), aI k 5 h3)] := hD
        refine lv_aload_nN hx hb dX4_hour_74 rfl (lv_at hl 3 rfl) ?_
        refine lv_ifnullN (tgt := 101) hx hb dX4_hour_75 (by decide) ?_
        refine lv_aload_n hx hb dX4_hour_101 rfl (lv_at hl 0 rfl) ?_
        refine va_get (D := D) (ci := 3) (v := .int v4) (C := RX4) (T := TX4) (N := 18) hx hb hts in_X4 hown hg.1 hP 0 rfl rfl 17 (Nat.le_of_ble_eq_true rfl) (hts _ q267) (fun _ h9 => h9) rfl dX4_hour_102 ?_
        have Jn4 : ∀ (v21 : (Int32) × (Int32) × (Nat → Int32) × (Nat → Int32) × (Nat → Int32) × (Nat → Int32)) (H : Heap) (locs : List Loc) (ls : Array Slot), v21 = f_X4_hour_j4 I h3 J WI SI nS u1 v4 v9 v12 → va_P D vwCl [(st, eST sr (upd (upd (upd (upd (upd (upd (upd I 11 u1.1) 15 u1.2.1) 17 v4) 12 v9) 13 v12) 4 v21.1) 5 v21.2.1) L), ((sr 0), aI k 5 v21.2.2.1), ((sr 1), aI k 5 v21.2.2.2.1), ((sr 2), aI k 5 v21.2.2.2.2.1), ((sr 3), aI k 5 v21.2.2.2.2.2)] H → va_D A [(st, eST sr (upd (upd (upd (upd (upd (upd (upd I 11 u1.1) 15 u1.2.1) 17 v4) 12 v9) 13 v12) 4 v21.1) 5 v21.2.1) L), ((sr 0), aI k 5 v21.2.2.1), ((sr 1), aI k 5 v21.2.2.2.1), ((sr 2), aI k 5 v21.2.2.2.2.1), ((sr 3), aI k 5 v21.2.2.2.2.2)] → va_S A s.heap H locs → lv_has ls 6 [(0, .ref st), (1, .ref wa), (2, .ref se), (3, .null)] → W p l e rm_X4_hour s m ([.ref st, .ref wa, .ref se, .null] : List Value).toArray below meth c H locs 0 0 (MQ below (q_X4_hour D k st sr I L h0 h1 h2 h3 ore nP now se J wa wd WI pr SI OI tn nS nO A) ([.ref st, .ref wa, .ref se, .null] : List Value).toArray s 0 0 A) (F0 m 127 ls []) := by
          intro v21 H locs ls ev21 hP hD hS hl
          refine lv_iconst (v := 0) hx hb dX4_hour_127 ci_0 ?_
          refine lv_aload_n hx hb dX4_hour_128 rfl (lv_at hl 0 rfl) ?_
          refine va_get (D := D) (ci := 3) (v := .int v21.1) (C := RX4) (T := TX4) (N := 18) hx hb hts in_X4 hown hg.1 hP 0 rfl rfl 4 (Nat.le_of_ble_eq_true rfl) (hts _ q241) (fun _ h9 => h9) rfl dX4_hour_129 ?_
          refine lv_aload_n hx hb dX4_hour_132 rfl (lv_at hl 1 rfl) ?_
          refine va_get (D := D) (ci := 7) (v := .int (WI 11)) (C := RX9) (T := TX9) (N := 13) hx hb hts in_X9 hown hg.1 (wkat hW hS).1 0 rfl rfl 11 (Nat.le_of_ble_eq_true rfl) (hts _ q533) (fun _ h9 => h9) rfl dX4_hour_133 ?_
          refine lv_isub hx hb dX4_hour_136 ?_
          refine va_mmax hx hb (by rw [hml]; exact hl.1.symm) hown (hts _ q905) (hts _ q906) (hts _ q104) (hts _ q907) (Nat.le_of_ble_eq_true rfl) (Nat.le_of_ble_eq_true rfl) (Nat.le_of_ble_eq_true rfl) (Nat.le_of_ble_eq_true rfl) dX4_hour_137 ?_
          refine lv_topi (fun x22 ex22 => ?_)
          refine lv_istore (lv' := [(4, .int x22), (0, .ref st), (1, .ref wa), (2, .ref se), (3, .null)]) hx hb dX4_hour_140 hl (Nat.le_of_ble_eq_true rfl) rfl (fun ls hl => ?_)
          refine lv_aload_n hx hb dX4_hour_142 rfl (lv_at hl 1 rfl) ?_
          refine lv_dup hx hb dX4_hour_143 rfl ?_
          refine va_get (D := D) (ci := 3) (v := .int v21.1) (C := RX4) (T := TX4) (N := 18) hx hb hts in_X4 hown hg.1 hP 0 rfl rfl 4 (Nat.le_of_ble_eq_true rfl) (hts _ q241) (fun _ h9 => h9) rfl dX4_hour_144 ?_
          refine lv_iload hx hb dX4_hour_147 (lv_at hl 0 rfl) ?_
          refine lv_isub hx hb dX4_hour_149 ?_
          refine lv_topi (fun x23 ex23 => ?_)
          refine va_put (D := D) (ci := 3) (v := .int x23) (C := RX4) (T := TX4) (N := 18) hx hb hts in_X4 tyX4 tyX4_ok nmX4 hown hg.1 hP hD hS 0 rfl rfl 4 (Nat.le_of_ble_eq_true rfl) (hts _ q241) (fun _ h9 => h9) rfl ftX4_4 rfl rfl (Nat.le_of_ble_eq_true rfl) dX4_hour_150 (fun H locs hP hD hS => ?_)
          replace hP : va_P D vwCl [(st, eST sr (upd (upd (upd (upd (upd (upd (upd I 11 u1.1) 15 u1.2.1) 17 v4) 12 v9) 13 v12) 5 v21.2.1) 4 x23) L), ((sr 0), aI k 5 v21.2.2.1), ((sr 1), aI k 5 v21.2.2.2.1), ((sr 2), aI k 5 v21.2.2.2.2.1), ((sr 3), aI k 5 v21.2.2.2.2.2)] H := hP
          replace hD : va_D A [(st, eST sr (upd (upd (upd (upd (upd (upd (upd I 11 u1.1) 15 u1.2.1) 17 v4) 12 v9) 13 v12) 5 v21.2.1) 4 x23) L), ((sr 0), aI k 5 v21.2.2.1), ((sr 1), aI k 5 v21.2.2.2.1), ((sr 2), aI k 5 v21.2.2.2.2.1), ((sr 3), aI k 5 v21.2.2.2.2.2)] := hD
          refine lv_aload_n hx hb dX4_hour_153 rfl (lv_at hl 1 rfl) ?_
          refine lv_dup hx hb dX4_hour_154 rfl ?_
          refine va_get (D := D) (ci := 3) (v := .int v21.2.1) (C := RX4) (T := TX4) (N := 18) hx hb hts in_X4 hown hg.1 hP 0 rfl rfl 5 (Nat.le_of_ble_eq_true rfl) (hts _ q243) (fun _ h9 => h9) rfl dX4_hour_155 ?_
          refine lv_iload hx hb dX4_hour_158 (lv_at hl 0 rfl) ?_
          refine lv_iadd hx hb dX4_hour_160 ?_
          refine lv_topi (fun x24 ex24 => ?_)
          refine va_put (D := D) (ci := 3) (v := .int x24) (C := RX4) (T := TX4) (N := 18) hx hb hts in_X4 tyX4 tyX4_ok nmX4 hown hg.1 hP hD hS 0 rfl rfl 5 (Nat.le_of_ble_eq_true rfl) (hts _ q243) (fun _ h9 => h9) rfl ftX4_5 rfl rfl (Nat.le_of_ble_eq_true rfl) dX4_hour_161 (fun H locs hP hD hS => ?_)
          replace hP : va_P D vwCl [(st, eST sr (upd (upd (upd (upd (upd (upd (upd I 11 u1.1) 15 u1.2.1) 17 v4) 12 v9) 13 v12) 4 x23) 5 x24) L), ((sr 0), aI k 5 v21.2.2.1), ((sr 1), aI k 5 v21.2.2.2.1), ((sr 2), aI k 5 v21.2.2.2.2.1), ((sr 3), aI k 5 v21.2.2.2.2.2)] H := hP
          replace hD : va_D A [(st, eST sr (upd (upd (upd (upd (upd (upd (upd I 11 u1.1) 15 u1.2.1) 17 v4) 12 v9) 13 v12) 4 x23) 5 x24) L), ((sr 0), aI k 5 v21.2.2.1), ((sr 1), aI k 5 v21.2.2.2.1), ((sr 2), aI k 5 v21.2.2.2.2.1), ((sr 3), aI k 5 v21.2.2.2.2.2)] := hD
          refine lv_aload_n hx hb dX4_hour_164 rfl (lv_at hl 2 rfl) ?_
          refine va_get (D := D) (ci := 7) (v := .int (WI 12)) (C := RX9) (T := TX9) (N := 13) hx hb hts in_X9 hown hg.1 (wkat hW hS).1 0 rfl rfl 12 (Nat.le_of_ble_eq_true rfl) (hts _ q537) (fun _ h9 => h9) rfl dX4_hour_165 ?_
          refine lv_aload_n hx hb dX4_hour_168 rfl (lv_at hl 1 rfl) ?_
          refine va_get (D := D) (ci := 3) (v := .int x23) (C := RX4) (T := TX4) (N := 18) hx hb hts in_X4 hown hg.1 hP 0 rfl rfl 4 (Nat.le_of_ble_eq_true rfl) (hts _ q241) (fun _ h9 => h9) rfl dX4_hour_169 ?_
          refine va_mmin hx hb (by rw [hml]; exact hl.1.symm) hown (hts _ q927) (hts _ q921) (hts _ q104) (hts _ q922) (Nat.le_of_ble_eq_true rfl) (Nat.le_of_ble_eq_true rfl) (Nat.le_of_ble_eq_true rfl) (Nat.le_of_ble_eq_true rfl) dX4_hour_172 ?_
          refine lv_topi (fun x25 ex25 => ?_)
          refine lv_istore (lv' := [(5, .int x25), (4, .int x22), (0, .ref st), (1, .ref wa), (2, .ref se), (3, .null)]) hx hb dX4_hour_175 hl (Nat.le_of_ble_eq_true rfl) rfl (fun ls hl => ?_)
          refine lv_aload_n hx hb dX4_hour_177 rfl (lv_at hl 2 rfl) ?_
          refine lv_dup hx hb dX4_hour_178 rfl ?_
          refine va_get (D := D) (ci := 3) (v := .int x23) (C := RX4) (T := TX4) (N := 18) hx hb hts in_X4 hown hg.1 hP 0 rfl rfl 4 (Nat.le_of_ble_eq_true rfl) (hts _ q241) (fun _ h9 => h9) rfl dX4_hour_179 ?_
          refine lv_iload hx hb dX4_hour_182 (lv_at hl 0 rfl) ?_
          refine lv_isub hx hb dX4_hour_184 ?_
          refine lv_topi (fun x26 ex26 => ?_)
          refine va_put (D := D) (ci := 3) (v := .int x26) (C := RX4) (T := TX4) (N := 18) hx hb hts in_X4 tyX4 tyX4_ok nmX4 hown hg.1 hP hD hS 0 rfl rfl 4 (Nat.le_of_ble_eq_true rfl) (hts _ q241) (fun _ h9 => h9) rfl ftX4_4 rfl rfl (Nat.le_of_ble_eq_true rfl) dX4_hour_185 (fun H locs hP hD hS => ?_)
          replace hP : va_P D vwCl [(st, eST sr (upd (upd (upd (upd (upd (upd (upd I 11 u1.1) 15 u1.2.1) 17 v4) 12 v9) 13 v12) 5 x24) 4 x26) L), ((sr 0), aI k 5 v21.2.2.1), ((sr 1), aI k 5 v21.2.2.2.1), ((sr 2), aI k 5 v21.2.2.2.2.1), ((sr 3), aI k 5 v21.2.2.2.2.2)] H := hP
          replace hD : va_D A [(st, eST sr (upd (upd (upd (upd (upd (upd (upd I 11 u1.1) 15 u1.2.1) 17 v4) 12 v9) 13 v12) 5 x24) 4 x26) L), ((sr 0), aI k 5 v21.2.2.1), ((sr 1), aI k 5 v21.2.2.2.1), ((sr 2), aI k 5 v21.2.2.2.2.1), ((sr 3), aI k 5 v21.2.2.2.2.2)] := hD
          refine lv_aload_n hx hb dX4_hour_188 rfl (lv_at hl 2 rfl) ?_
          refine lv_dup hx hb dX4_hour_189 rfl ?_
          refine va_get (D := D) (ci := 3) (v := .int (I 6)) (C := RX4) (T := TX4) (N := 18) hx hb hts in_X4 hown hg.1 hP 0 rfl rfl 6 (Nat.le_of_ble_eq_true rfl) (hts _ q245) (fun _ h9 => h9) rfl dX4_hour_190 ?_
          refine lv_iload hx hb dX4_hour_193 (lv_at hl 0 rfl) ?_
          refine lv_iadd hx hb dX4_hour_195 ?_
          refine lv_topi (fun x27 ex27 => ?_)
          refine va_put (D := D) (ci := 3) (v := .int x27) (C := RX4) (T := TX4) (N := 18) hx hb hts in_X4 tyX4 tyX4_ok nmX4 hown hg.1 hP hD hS 0 rfl rfl 6 (Nat.le_of_ble_eq_true rfl) (hts _ q245) (fun _ h9 => h9) rfl ftX4_6 rfl rfl (Nat.le_of_ble_eq_true rfl) dX4_hour_196 (fun H locs hP hD hS => ?_)
          replace hP : va_P D vwCl [(st, eST sr (upd (upd (upd (upd (upd (upd (upd (upd I 11 u1.1) 15 u1.2.1) 17 v4) 12 v9) 13 v12) 5 x24) 4 x26) 6 x27) L), ((sr 0), aI k 5 v21.2.2.1), ((sr 1), aI k 5 v21.2.2.2.1), ((sr 2), aI k 5 v21.2.2.2.2.1), ((sr 3), aI k 5 v21.2.2.2.2.2)] H := hP
          replace hD : va_D A [(st, eST sr (upd (upd (upd (upd (upd (upd (upd (upd I 11 u1.1) 15 u1.2.1) 17 v4) 12 v9) 13 v12) 5 x24) 4 x26) 6 x27) L), ((sr 0), aI k 5 v21.2.2.1), ((sr 1), aI k 5 v21.2.2.2.1), ((sr 2), aI k 5 v21.2.2.2.2.1), ((sr 3), aI k 5 v21.2.2.2.2.2)] := hD
          refine lv_aload_n hx hb dX4_hour_199 rfl (lv_at hl 2 rfl) ?_
          refine lv_dup hx hb dX4_hour_200 rfl ?_
          refine va_get (D := D) (ci := 3) (v := .int (I 7)) (C := RX4) (T := TX4) (N := 18) hx hb hts in_X4 hown hg.1 hP 0 rfl rfl 7 (Nat.le_of_ble_eq_true rfl) (hts _ q247) (fun _ h9 => h9) rfl dX4_hour_201 ?_
          refine lv_aload_n hx hb dX4_hour_204 rfl (lv_at hl 3 rfl) ?_
          refine va_get (D := D) (ci := 7) (v := .int (WI 12)) (C := RX9) (T := TX9) (N := 13) hx hb hts in_X9 hown hg.1 (wkat hW hS).1 0 rfl rfl 12 (Nat.le_of_ble_eq_true rfl) (hts _ q537) (fun _ h9 => h9) rfl dX4_hour_205 ?_
          refine lv_iload hx hb dX4_hour_208 (lv_at hl 0 rfl) ?_
          refine lv_isub hx hb dX4_hour_210 ?_
          refine lv_iadd hx hb dX4_hour_211 ?_
          refine lv_topi (fun x28 ex28 => ?_)
          refine va_put (D := D) (ci := 3) (v := .int x28) (C := RX4) (T := TX4) (N := 18) hx hb hts in_X4 tyX4 tyX4_ok nmX4 hown hg.1 hP hD hS 0 rfl rfl 7 (Nat.le_of_ble_eq_true rfl) (hts _ q247) (fun _ h9 => h9) rfl ftX4_7 rfl rfl (Nat.le_of_ble_eq_true rfl) dX4_hour_212 (fun H locs hP hD hS => ?_)
          replace hP : va_P D vwCl [(st, eST sr (upd (upd (upd (upd (upd (upd (upd (upd (upd I 11 u1.1) 15 u1.2.1) 17 v4) 12 v9) 13 v12) 5 x24) 4 x26) 6 x27) 7 x28) L), ((sr 0), aI k 5 v21.2.2.1), ((sr 1), aI k 5 v21.2.2.2.1), ((sr 2), aI k 5 v21.2.2.2.2.1), ((sr 3), aI k 5 v21.2.2.2.2.2)] H := hP
          replace hD : va_D A [(st, eST sr (upd (upd (upd (upd (upd (upd (upd (upd (upd I 11 u1.1) 15 u1.2.1) 17 v4) 12 v9) 13 v12) 5 x24) 4 x26) 6 x27) 7 x28) L), ((sr 0), aI k 5 v21.2.2.1), ((sr 1), aI k 5 v21.2.2.2.1), ((sr 2), aI k 5 v21.2.2.2.2.1), ((sr 3), aI k 5 v21.2.2.2.2.2)] := hD
          refine lv_aload_n hx hb dX4_hour_215 rfl (lv_at hl 2 rfl) ?_
          refine lv_iconst (v := 0) hx hb dX4_hour_216 ci_0 ?_
          refine lv_aload_n hx hb dX4_hour_217 rfl (lv_at hl 3 rfl) ?_
          refine va_get (D := D) (ci := 7) (v := .int (WI 7)) (C := RX9) (T := TX9) (N := 13) hx hb hts in_X9 hown hg.1 (wkat hW hS).1 0 rfl rfl 7 (Nat.le_of_ble_eq_true rfl) (hts _ q516) (fun _ h9 => h9) rfl dX4_hour_218 ?_
          refine lv_aload_n hx hb dX4_hour_221 rfl (lv_at hl 3 rfl) ?_
          refine va_get (D := D) (ci := 7) (v := .int (WI 7)) (C := RX9) (T := TX9) (N := 13) hx hb hts in_X9 hown hg.1 (wkat hW hS).1 0 rfl rfl 7 (Nat.le_of_ble_eq_true rfl) (hts _ q516) (fun _ h9 => h9) rfl dX4_hour_222 ?_
          refine lv_aload_n hx hb dX4_hour_225 rfl (lv_at hl 2 rfl) ?_
          refine va_get (D := D) (ci := 3) (v := .int u1.1) (C := RX4) (T := TX4) (N := 18) hx hb hts in_X4 hown hg.1 hP 0 rfl rfl 11 (Nat.le_of_ble_eq_true rfl) (hts _ q255) (fun _ h9 => h9) rfl dX4_hour_226 ?_
          refine lv_imul hx hb dX4_hour_229 ?_
          refine lv_aload_n hx hb dX4_hour_230 rfl (lv_at hl 3 rfl) ?_
          refine va_get (D := D) (ci := 7) (v := .int (WI 6)) (C := RX9) (T := TX9) (N := 13) hx hb hts in_X9 hown hg.1 (wkat hW hS).1 0 rfl rfl 6 (Nat.le_of_ble_eq_true rfl) (hts _ q513) (fun _ h9 => h9) rfl dX4_hour_231 ?_
          refine lv_idiv hx hb dX4_hour_234 (by first | assumption | omega) ?_
          refine lv_isub hx hb dX4_hour_235 ?_
          refine va_mmax hx hb (by rw [hml]; exact hl.1.symm) hown (hts _ q905) (hts _ q906) (hts _ q104) (hts _ q907) (Nat.le_of_ble_eq_true rfl) (Nat.le_of_ble_eq_true rfl) (Nat.le_of_ble_eq_true rfl) (Nat.le_of_ble_eq_true rfl) dX4_hour_236 ?_
          refine lv_topi (fun x29 ex29 => ?_)
          refine va_put (D := D) (ci := 3) (v := .int x29) (C := RX4) (T := TX4) (N := 18) hx hb hts in_X4 tyX4 tyX4_ok nmX4 hown hg.1 hP hD hS 0 rfl rfl 14 (Nat.le_of_ble_eq_true rfl) (hts _ q261) (fun _ h9 => h9) rfl ftX4_14 rfl rfl (Nat.le_of_ble_eq_true rfl) dX4_hour_239 (fun H locs hP hD hS => ?_)
          replace hP : va_P D vwCl [(st, eST sr (upd (upd (upd (upd (upd (upd (upd (upd (upd (upd I 11 u1.1) 15 u1.2.1) 17 v4) 12 v9) 13 v12) 5 x24) 4 x26) 6 x27) 7 x28) 14 x29) L), ((sr 0), aI k 5 v21.2.2.1), ((sr 1), aI k 5 v21.2.2.2.1), ((sr 2), aI k 5 v21.2.2.2.2.1), ((sr 3), aI k 5 v21.2.2.2.2.2)] H := hP
          replace hD : va_D A [(st, eST sr (upd (upd (upd (upd (upd (upd (upd (upd (upd (upd I 11 u1.1) 15 u1.2.1) 17 v4) 12 v9) 13 v12) 5 x24) 4 x26) 6 x27) 7 x28) 14 x29) L), ((sr 0), aI k 5 v21.2.2.1), ((sr 1), aI k 5 v21.2.2.2.1), ((sr 2), aI k 5 v21.2.2.2.2.1), ((sr 3), aI k 5 v21.2.2.2.2.2)] := hD
          refine lv_aload_n hx hb dX4_hour_242 rfl (lv_at hl 2 rfl) ?_
          refine lv_dup hx hb dX4_hour_243 rfl ?_
          refine va_get (D := D) (ci := 3) (v := .long (L 16)) (C := RX4) (T := TX4) (N := 18) hx hb hts in_X4 hown hg.1 hP 0 rfl rfl 16 (Nat.le_of_ble_eq_true rfl) (hts _ q265) (fun _ h9 => h9) rfl dX4_hour_244 ?_
          refine lv_aload_n hx hb dX4_hour_247 rfl (lv_at hl 2 rfl) ?_
          refine va_get (D := D) (ci := 3) (v := .int v12) (C := RX4) (T := TX4) (N := 18) hx hb hts in_X4 hown hg.1 hP 0 rfl rfl 13 (Nat.le_of_ble_eq_true rfl) (hts _ q259) (fun _ h9 => h9) rfl dX4_hour_248 ?_
          refine lv_i2l hx hb dX4_hour_251 rfl ?_
          refine lv_aload_n hx hb dX4_hour_252 rfl (lv_at hl 3 rfl) ?_
          refine va_get (D := D) (ci := 7) (v := .ref (wd.1 2)) (C := RX9) (T := TX9) (N := 13) hx hb hts in_X9 hown hg.1 (wkat hW hS).1 0 rfl rfl 2 (Nat.le_of_ble_eq_true rfl) (hts _ q498) (fun _ h9 => h9) rfl dX4_hour_253 ?_
          refine lv_aload_n hx hb dX4_hour_256 rfl (lv_at hl 2 rfl) ?_
          refine va_get (D := D) (ci := 3) (v := .int (I 10)) (C := RX4) (T := TX4) (N := 18) hx hb hts in_X4 hown hg.1 hP 0 rfl rfl 10 (Nat.le_of_ble_eq_true rfl) (hts _ q253) (fun _ h9 => h9) rfl dX4_hour_257 ?_
          refine lv_aload_n hx hb dX4_hour_260 rfl (lv_at hl 3 rfl) ?_
          refine va_get (D := D) (ci := 7) (v := .int (WI 5)) (C := RX9) (T := TX9) (N := 13) hx hb hts in_X9 hown hg.1 (wkat hW hS).1 0 rfl rfl 5 (Nat.le_of_ble_eq_true rfl) (hts _ q509) (fun _ h9 => h9) rfl dX4_hour_261 ?_
          refine lv_irem hx hb dX4_hour_264 (by rw [hpr]; exact nI_ne0 (by omega) (by omega)) ?_
          refine xa_iald hx hb hg (wkat hW hS).1 3 rfl (xnrem hnow hpr (by omega) (by omega) (by omega)) (by first | omega | exact Nat.lt_of_lt_of_le (Nat.mod_lt _ (by omega)) (by omega)) (by omega) dX4_hour_265 ?_
          refine lv_i2l hx hb dX4_hour_266 rfl ?_
          refine lv_lmul hx hb dX4_hour_267 ?_
          refine lv_ladd hx hb dX4_hour_268 ?_
          refine lv_topl (fun x30 ex30 => ?_)
          refine va_put (D := D) (ci := 3) (v := .long x30) (C := RX4) (T := TX4) (N := 18) hx hb hts in_X4 tyX4 tyX4_ok nmX4 hown hg.1 hP hD hS 0 rfl rfl 16 (Nat.le_of_ble_eq_true rfl) (hts _ q265) (fun _ h9 => h9) rfl ftX4_16 rfl rfl (Nat.le_of_ble_eq_true rfl) dX4_hour_269 (fun H locs hP hD hS => ?_)
          replace hP : va_P D vwCl [(st, eST sr (upd (upd (upd (upd (upd (upd (upd (upd (upd (upd I 11 u1.1) 15 u1.2.1) 17 v4) 12 v9) 13 v12) 5 x24) 4 x26) 6 x27) 7 x28) 14 x29) (vp_updL L 16 x30)), ((sr 0), aI k 5 v21.2.2.1), ((sr 1), aI k 5 v21.2.2.2.1), ((sr 2), aI k 5 v21.2.2.2.2.1), ((sr 3), aI k 5 v21.2.2.2.2.2)] H := hP
          replace hD : va_D A [(st, eST sr (upd (upd (upd (upd (upd (upd (upd (upd (upd (upd I 11 u1.1) 15 u1.2.1) 17 v4) 12 v9) 13 v12) 5 x24) 4 x26) 6 x27) 7 x28) 14 x29) (vp_updL L 16 x30)), ((sr 0), aI k 5 v21.2.2.1), ((sr 1), aI k 5 v21.2.2.2.1), ((sr 2), aI k 5 v21.2.2.2.2.1), ((sr 3), aI k 5 v21.2.2.2.2.2)] := hD
          refine lv_aload_n hx hb dX4_hour_272 rfl (lv_at hl 2 rfl) ?_
          refine lv_dup hx hb dX4_hour_273 rfl ?_
          refine va_get (D := D) (ci := 3) (v := .int (I 8)) (C := RX4) (T := TX4) (N := 18) hx hb hts in_X4 hown hg.1 hP 0 rfl rfl 8 (Nat.le_of_ble_eq_true rfl) (hts _ q249) (fun _ h9 => h9) rfl dX4_hour_274 ?_
          refine lv_iconst (v := 1) hx hb dX4_hour_277 ci_1 ?_
          refine lv_iadd hx hb dX4_hour_278 ?_
          refine lv_topi (fun x31 ex31 => ?_)
          refine va_put (D := D) (ci := 3) (v := .int x31) (C := RX4) (T := TX4) (N := 18) hx hb hts in_X4 tyX4 tyX4_ok nmX4 hown hg.1 hP hD hS 0 rfl rfl 8 (Nat.le_of_ble_eq_true rfl) (hts _ q249) (fun _ h9 => h9) rfl ftX4_8 rfl rfl (Nat.le_of_ble_eq_true rfl) dX4_hour_279 (fun H locs hP hD hS => ?_)
          replace hP : va_P D vwCl [(st, eST sr (upd (upd (upd (upd (upd (upd (upd (upd (upd (upd (upd I 11 u1.1) 15 u1.2.1) 17 v4) 12 v9) 13 v12) 5 x24) 4 x26) 6 x27) 7 x28) 14 x29) 8 x31) (vp_updL L 16 x30)), ((sr 0), aI k 5 v21.2.2.1), ((sr 1), aI k 5 v21.2.2.2.1), ((sr 2), aI k 5 v21.2.2.2.2.1), ((sr 3), aI k 5 v21.2.2.2.2.2)] H := hP
          replace hD : va_D A [(st, eST sr (upd (upd (upd (upd (upd (upd (upd (upd (upd (upd (upd I 11 u1.1) 15 u1.2.1) 17 v4) 12 v9) 13 v12) 5 x24) 4 x26) 6 x27) 7 x28) 14 x29) 8 x31) (vp_updL L 16 x30)), ((sr 0), aI k 5 v21.2.2.1), ((sr 1), aI k 5 v21.2.2.2.1), ((sr 2), aI k 5 v21.2.2.2.2.1), ((sr 3), aI k 5 v21.2.2.2.2.2)] := hD
          refine lv_aload_n hx hb dX4_hour_282 rfl (lv_at hl 2 rfl) ?_
          refine lv_dup hx hb dX4_hour_283 rfl ?_
          refine va_get (D := D) (ci := 3) (v := .int (I 10)) (C := RX4) (T := TX4) (N := 18) hx hb hts in_X4 hown hg.1 hP 0 rfl rfl 10 (Nat.le_of_ble_eq_true rfl) (hts _ q253) (fun _ h9 => h9) rfl dX4_hour_284 ?_
          refine lv_iconst (v := 1) hx hb dX4_hour_287 ci_1 ?_
          refine lv_iadd hx hb dX4_hour_288 ?_
          refine lv_topi (fun x32 ex32 => ?_)
          refine va_put (D := D) (ci := 3) (v := .int x32) (C := RX4) (T := TX4) (N := 18) hx hb hts in_X4 tyX4 tyX4_ok nmX4 hown hg.1 hP hD hS 0 rfl rfl 10 (Nat.le_of_ble_eq_true rfl) (hts _ q253) (fun _ h9 => h9) rfl ftX4_10 rfl rfl (Nat.le_of_ble_eq_true rfl) dX4_hour_289 (fun H locs hP hD hS => ?_)
          replace hP : va_P D vwCl [(st, eST sr (upd (upd (upd (upd (upd (upd (upd (upd (upd (upd (upd (upd I 11 u1.1) 15 u1.2.1) 17 v4) 12 v9) 13 v12) 5 x24) 4 x26) 6 x27) 7 x28) 14 x29) 8 x31) 10 x32) (vp_updL L 16 x30)), ((sr 0), aI k 5 v21.2.2.1), ((sr 1), aI k 5 v21.2.2.2.1), ((sr 2), aI k 5 v21.2.2.2.2.1), ((sr 3), aI k 5 v21.2.2.2.2.2)] H := hP
          replace hD : va_D A [(st, eST sr (upd (upd (upd (upd (upd (upd (upd (upd (upd (upd (upd (upd I 11 u1.1) 15 u1.2.1) 17 v4) 12 v9) 13 v12) 5 x24) 4 x26) 6 x27) 7 x28) 14 x29) 8 x31) 10 x32) (vp_updL L 16 x30)), ((sr 0), aI k 5 v21.2.2.1), ((sr 1), aI k 5 v21.2.2.2.1), ((sr 2), aI k 5 v21.2.2.2.2.1), ((sr 3), aI k 5 v21.2.2.2.2.2)] := hD
          exact xret_v hx hb hr hlocks (Nat.le_of_ble_eq_true rfl) (Nat.le_of_ble_eq_true rfl) hS.2.2 dX4_hour_292 (fun t ht => ⟨⟨(x26, x24, x27, x28, x31, x32, u1.1, v9, v12, x29, u1.2.1, x30, v4, v21.2.2.1, v21.2.2.2.1, v21.2.2.2.2.1, v21.2.2.2.2.2), rfl, ⟨(by subst ex32; subst ex31; subst ex30; subst ex29; subst ex28; subst ex27; subst ex26; subst ex25; subst ex24; subst ex23; subst ex22; subst ev21; subst ev12; subst ev9; subst ev4; subst eu1; exact rfl), bv4_0⟩, by rw [ht]; exact hP, hD⟩, hS.F ht⟩)
        refine lv_if_eq (tgt := 116) hx hb dX4_hour_105 (by decide) (fun c33 => ?_) (fun c33 => ?_)
        · refine lv_aload_n hx hb dX4_hour_116 rfl (lv_at hl 0 rfl) ?_
          refine lv_aload_n hx hb dX4_hour_117 rfl (lv_at hl 1 rfl) ?_
          refine xc_v (wc := [(st, eST sr (upd (upd (upd (upd (upd I 11 u1.1) 15 u1.2.1) 17 v4) 12 v9) 13 v12) L), ((sr 0), aI k 5 u1.2.2.1), ((sr 1), aI k 5 u1.2.2.2.1), ((sr 2), aI k 5 u1.2.2.2.2), ((sr 3), aI k 5 h3)]) (wr := []) hP hD hS hA [0, 1, 2, 3, 4] [] rfl rfl rfl (by decide) (xrV ⟨hx, hb, hml, hown, hts⟩ hg (m_X4_grinds l D k _ st sr (upd (upd (upd (upd (upd I 11 u1.1) 15 u1.2.1) 17 v4) 12 v9) 13 v12) L u1.2.2.1 u1.2.2.2.1 u1.2.2.2.2 h3 wa wd WI pr SI OI tn nS nO hnS hnO hS2 hS5 hO4) hP hD [0, 1, 2, 3, 4] rfl rfl (wkcall hW hS (va_free (wc := [(st, eST sr (upd (upd (upd (upd (upd I 11 u1.1) 15 u1.2.1) 17 v4) 12 v9) 13 v12) L), ((sr 0), aI k 5 u1.2.2.1), ((sr 1), aI k 5 u1.2.2.2.1), ((sr 2), aI k 5 u1.2.2.2.2), ((sr 3), aI k 5 h3)]) hD hS hA [0, 1, 2, 3, 4] rfl)) (ci := 3) (q0 := 0) rfl rfl rfl q928 q930 qs25 q89 q931 xo_X4_grinds ⟨rfl, rfl⟩ ⟨Nat.le_of_ble_eq_true rfl, Nat.le_of_ble_eq_true rfl⟩ hl.1 (Nat.le_of_ble_eq_true rfl) dX4_hour_118 ⟨Nat.le_of_ble_eq_true rfl, Nat.le_of_ble_eq_true rfl⟩ rfl) (fun u34 H locs hw hP hD hS hk => ?_)
          have eu34 := hw
          replace hP : va_P D vwCl [(st, eST sr (upd (upd (upd (upd (upd I 11 u1.1) 15 u1.2.1) 17 v4) 12 v9) 13 v12) L), ((sr 0), aI k 5 u34), ((sr 1), aI k 5 u1.2.2.2.1), ((sr 2), aI k 5 u1.2.2.2.2), ((sr 3), aI k 5 h3)] H := hP.sub [0, 1, 2, 3, 4] rfl
          replace hD : va_D A [(st, eST sr (upd (upd (upd (upd (upd I 11 u1.1) 15 u1.2.1) 17 v4) 12 v9) 13 v12) L), ((sr 0), aI k 5 u34), ((sr 1), aI k 5 u1.2.2.2.1), ((sr 2), aI k 5 u1.2.2.2.2), ((sr 3), aI k 5 h3)] := hD.sub [0, 1, 2, 3, 4] (by decide) rfl
          refine lv_aload_n hx hb dX4_hour_121 rfl (lv_at hl 0 rfl) ?_
          refine lv_aload_n hx hb dX4_hour_122 rfl (lv_at hl 1 rfl) ?_
          refine lv_aload_n hx hb dX4_hour_123 rfl (lv_at hl 2 rfl) ?_
          refine xc_v (wc := [(st, eST sr (upd (upd (upd (upd (upd I 11 u1.1) 15 u1.2.1) 17 v4) 12 v9) 13 v12) L), ((sr 0), aI k 5 u34), ((sr 1), aI k 5 u1.2.2.2.1), ((sr 2), aI k 5 u1.2.2.2.2), ((sr 3), aI k 5 h3)]) (wr := []) hP hD hS hA [0, 1, 2, 3, 4] [] rfl rfl rfl (by decide) (xrV ⟨hx, hb, hml, hown, hts⟩ hg (m_X4_sifts l D k _ st sr (upd (upd (upd (upd (upd I 11 u1.1) 15 u1.2.1) 17 v4) 12 v9) 13 v12) L u34 u1.2.2.2.1 u1.2.2.2.2 h3 se J wa wd WI pr SI OI tn nS nO hnS hnO hS2 hS5 hO4) hP hD [0, 1, 2, 3, 4] rfl rfl (wzcall hZ hS (va_free (wc := [(st, eST sr (upd (upd (upd (upd (upd I 11 u1.1) 15 u1.2.1) 17 v4) 12 v9) 13 v12) L), ((sr 0), aI k 5 u34), ((sr 1), aI k 5 u1.2.2.2.1), ((sr 2), aI k 5 u1.2.2.2.2), ((sr 3), aI k 5 h3)]) hD hS hA [0, 1, 2, 3, 4] rfl)) (ci := 3) (q0 := 0) rfl rfl rfl q932 q934 qs26 q89 q935 xo_X4_sifts ⟨rfl, rfl⟩ ⟨Nat.le_of_ble_eq_true rfl, Nat.le_of_ble_eq_true rfl⟩ hl.1 (Nat.le_of_ble_eq_true rfl) dX4_hour_124 ⟨Nat.le_of_ble_eq_true rfl, Nat.le_of_ble_eq_true rfl⟩ rfl) (fun u35 H locs hw hP hD hS hk => ?_)
          have eu35 := hw
          replace hP : va_P D vwCl [(st, eST sr (upd (upd (upd (upd (upd (upd I 11 u1.1) 15 u1.2.1) 17 v4) 12 v9) 13 v12) 4 u35.1) L), ((sr 0), aI k 5 u35.2.1), ((sr 1), aI k 5 u35.2.2.1), ((sr 2), aI k 5 u35.2.2.2.1), ((sr 3), aI k 5 u35.2.2.2.2)] H := hP.sub [0, 1, 2, 3, 4] rfl
          replace hD : va_D A [(st, eST sr (upd (upd (upd (upd (upd (upd I 11 u1.1) 15 u1.2.1) 17 v4) 12 v9) 13 v12) 4 u35.1) L), ((sr 0), aI k 5 u35.2.1), ((sr 1), aI k 5 u35.2.2.1), ((sr 2), aI k 5 u35.2.2.2.1), ((sr 3), aI k 5 u35.2.2.2.2)] := hD.sub [0, 1, 2, 3, 4] (by decide) rfl
          exact Jn4 (u35.1, (I 5), u35.2.1, u35.2.2.1, u35.2.2.2.1, u35.2.2.2.2) _ _ _ (by subst eu35; subst eu34; exact Eq.symm (Eq.trans (if_pos c33) (rfl))) hP hD hS (lv_sub hl [0, 1, 2, 3] rfl)
        · refine lv_aload_n hx hb dX4_hour_108 rfl (lv_at hl 0 rfl) ?_
          refine lv_aload_n hx hb dX4_hour_109 rfl (lv_at hl 1 rfl) ?_
          refine xc_v (wc := [(st, eST sr (upd (upd (upd (upd (upd I 11 u1.1) 15 u1.2.1) 17 v4) 12 v9) 13 v12) L), ((sr 0), aI k 5 u1.2.2.1), ((sr 1), aI k 5 u1.2.2.2.1), ((sr 2), aI k 5 u1.2.2.2.2), ((sr 3), aI k 5 h3)]) (wr := []) hP hD hS hA [0, 1, 2, 3, 4] [] rfl rfl rfl (by decide) (xrV ⟨hx, hb, hml, hown, hts⟩ hg (m_X4_digs l D k _ st sr (upd (upd (upd (upd (upd I 11 u1.1) 15 u1.2.1) 17 v4) 12 v9) 13 v12) L u1.2.2.1 u1.2.2.2.1 u1.2.2.2.2 h3 wa wd WI pr SI OI tn nS nO hnS hnO hS2 hS5 hO4) hP hD [0, 1, 2, 3, 4] rfl rfl (wkcall hW hS (va_free (wc := [(st, eST sr (upd (upd (upd (upd (upd I 11 u1.1) 15 u1.2.1) 17 v4) 12 v9) 13 v12) L), ((sr 0), aI k 5 u1.2.2.1), ((sr 1), aI k 5 u1.2.2.2.1), ((sr 2), aI k 5 u1.2.2.2.2), ((sr 3), aI k 5 h3)]) hD hS hA [0, 1, 2, 3, 4] rfl)) (ci := 3) (q0 := 0) rfl rfl rfl q923 q925 qs24 q89 q926 xo_X4_digs ⟨rfl, rfl⟩ ⟨Nat.le_of_ble_eq_true rfl, Nat.le_of_ble_eq_true rfl⟩ hl.1 (Nat.le_of_ble_eq_true rfl) dX4_hour_110 ⟨Nat.le_of_ble_eq_true rfl, Nat.le_of_ble_eq_true rfl⟩ rfl) (fun u36 H locs hw hP hD hS hk => ?_)
          have eu36 := hw
          replace hP : va_P D vwCl [(st, eST sr (upd (upd (upd (upd (upd (upd I 11 u1.1) 15 u1.2.1) 17 v4) 12 v9) 13 v12) 5 u36.1) L), ((sr 0), aI k 5 u36.2), ((sr 1), aI k 5 u1.2.2.2.1), ((sr 2), aI k 5 u1.2.2.2.2), ((sr 3), aI k 5 h3)] H := hP.sub [0, 1, 2, 3, 4] rfl
          replace hD : va_D A [(st, eST sr (upd (upd (upd (upd (upd (upd I 11 u1.1) 15 u1.2.1) 17 v4) 12 v9) 13 v12) 5 u36.1) L), ((sr 0), aI k 5 u36.2), ((sr 1), aI k 5 u1.2.2.2.1), ((sr 2), aI k 5 u1.2.2.2.2), ((sr 3), aI k 5 h3)] := hD.sub [0, 1, 2, 3, 4] (by decide) rfl
          refine lv_goto (tgt := 127) hx hb dX4_hour_113 (by decide) ?_
          exact Jn4 ((I 4), u36.1, u36.2, u1.2.2.2.1, u1.2.2.2.2, h3) _ _ _ (by subst eu36; exact Eq.symm (Eq.trans (if_neg c33) (rfl))) hP hD hS (lv_sub hl [0, 1, 2, 3] rfl)
      refine lv_if_eq (tgt := 59) hx hb dX4_hour_52 (by decide) (fun c37 => ?_) (fun c37 => ?_)
      · refine lv_aload_n hx hb dX4_hour_59 rfl (lv_at hl 0 rfl) ?_
        refine va_get (D := D) (ci := 3) (v := .int u1.1) (C := RX4) (T := TX4) (N := 18) hx hb hts in_X4 hown hg.1 hP 0 rfl rfl 11 (Nat.le_of_ble_eq_true rfl) (hts _ q255) (fun _ h9 => h9) rfl dX4_hour_60 ?_
        refine lv_aload_n hx hb dX4_hour_63 rfl (lv_at hl 0 rfl) ?_
        refine va_get (D := D) (ci := 3) (v := .int v9) (C := RX4) (T := TX4) (N := 18) hx hb hts in_X4 hown hg.1 hP 0 rfl rfl 12 (Nat.le_of_ble_eq_true rfl) (hts _ q257) (fun _ h9 => h9) rfl dX4_hour_64 ?_
        refine lv_imul hx hb dX4_hour_67 ?_
        refine lv_bipush (v := 100) hx hb dX4_hour_68 cb_100 ?_
        refine lv_idiv hx hb dX4_hour_70 (by decide) ?_
        exact Jn3 ((u1.1 * v9) / 100) _ _ _ (by exact Eq.symm (Eq.trans (if_pos c37) (rfl))) hP hD hS (lv_sub hl [0, 1, 2, 3] rfl)
      · refine lv_iconst (v := 0) hx hb dX4_hour_55 ci_0 ?_
        refine lv_goto (tgt := 71) hx hb dX4_hour_56 (by decide) ?_
        exact Jn3 0 _ _ _ (by exact Eq.symm (Eq.trans (if_neg c37) (rfl))) hP hD hS (lv_sub hl [0, 1, 2, 3] rfl)
    refine lv_if_eq (tgt := 38) hx hb dX4_hour_31 (by decide) (fun c38 => ?_) (fun c38 => ?_)
    · refine lv_aload_n hx hb dX4_hour_38 rfl (lv_at hl 0 rfl) ?_
      refine lv_aload_n hx hb dX4_hour_39 rfl (lv_at hl 1 rfl) ?_
      refine lv_aload_n hx hb dX4_hour_40 rfl (lv_at hl 2 rfl) ?_
      refine xc_i (wc := [(st, eST sr (upd (upd (upd I 11 u1.1) 15 u1.2.1) 17 v4) L), ((sr 0), aI k 5 u1.2.2.1), ((sr 1), aI k 5 u1.2.2.2.1), ((sr 2), aI k 5 u1.2.2.2.2), ((sr 3), aI k 5 h3)]) (wr := []) hP hD hS hA [0, 1, 2, 3, 4] [] rfl rfl rfl (by decide) (xrV ⟨hx, hb, hml, hown, hts⟩ hg (m_X4_effectOf l D k _ st sr (upd (upd (upd I 11 u1.1) 15 u1.2.1) 17 v4) L u1.2.2.1 u1.2.2.2.1 u1.2.2.2.2 h3 ore se J wa wd WI pr SI OI tn nS nO hnS hnO hS2 hS5 hO4 hJ2 hore hroom hlife hhard) hP hD [0, 1, 2, 3, 4] rfl rfl (wzcall hZ hS (va_free (wc := [(st, eST sr (upd (upd (upd I 11 u1.1) 15 u1.2.1) 17 v4) L), ((sr 0), aI k 5 u1.2.2.1), ((sr 1), aI k 5 u1.2.2.2.1), ((sr 2), aI k 5 u1.2.2.2.2), ((sr 3), aI k 5 h3)]) hD hS hA [0, 1, 2, 3, 4] rfl)) (ci := 3) (q0 := 0) rfl rfl rfl q901 q903 qs23 q89 q904 xo_X4_effectOf ⟨rfl, rfl⟩ ⟨Nat.le_of_ble_eq_true rfl, Nat.le_of_ble_eq_true rfl⟩ hl.1 (Nat.le_of_ble_eq_true rfl) dX4_hour_41 ⟨Nat.le_of_ble_eq_true rfl, Nat.le_of_ble_eq_true rfl⟩ rfl) (fun u39 r_ H locs hw hP hD hS hk => ?_)
      obtain ⟨rfl, eu39⟩ := hw
      replace hP : va_P D vwCl [(st, eST sr (upd (upd (upd I 11 u1.1) 15 u1.2.1) 17 v4) L), ((sr 0), aI k 5 u1.2.2.1), ((sr 1), aI k 5 u1.2.2.2.1), ((sr 2), aI k 5 u1.2.2.2.2), ((sr 3), aI k 5 h3)] H := hP.sub [0, 1, 2, 3, 4] rfl
      replace hD : va_D A [(st, eST sr (upd (upd (upd I 11 u1.1) 15 u1.2.1) 17 v4) L), ((sr 0), aI k 5 u1.2.2.1), ((sr 1), aI k 5 u1.2.2.2.1), ((sr 2), aI k 5 u1.2.2.2.2), ((sr 3), aI k 5 h3)] := hD.sub [0, 1, 2, 3, 4] (by decide) rfl
      exact Jn2 u39 _ _ _ (by subst eu39; exact Eq.symm (Eq.trans (if_pos c38) (rfl))) hP hD hS (lv_sub hl [0, 1, 2, 3] rfl)
    · refine lv_iconst (v := 0) hx hb dX4_hour_34 ci_0 ?_
      refine lv_goto (tgt := 44) hx hb dX4_hour_35 (by decide) ?_
      exact Jn2 0 _ _ _ (by exact Eq.symm (Eq.trans (if_neg c38) (rfl))) hP hD hS (lv_sub hl [0, 1, 2, 3] rfl)
  refine lv_icmp_le (tgt := 22) hx hb dX4_hour_15 (by decide) (fun c40 => ?_) (fun c40 => ?_)
  · refine lv_iconst (v := 0) hx hb dX4_hour_22 ci_0 ?_
    exact Jn1 0 _ _ _ (by exact Eq.symm (Eq.trans (if_pos c40) (rfl))) (Or.inl rfl) hP hD hS (lv_sub hl [0, 1, 2, 3] rfl)
  · refine lv_iconst (v := 1) hx hb dX4_hour_18 ci_1 ?_
    refine lv_goto (tgt := 23) hx hb dX4_hour_19 (by decide) ?_
    exact Jn1 1 _ _ _ (by exact Eq.symm (Eq.trans (if_neg c40) (rfl))) (Or.inr rfl) hP hD hS (lv_sub hl [0, 1, 2, 3] rfl)

def f_X4_start_l24 (fi : Int32) (tn : Nat → Nat → Int32) (i3 : Nat) (X3 : (Nat → Int32)) : (Nat → Int32) :=
  let x11 := (fi * ((tn 0) i3))
  let f12 := upd X3 i3 x11
  f12
def f_X4_start (h0 : Nat → Int32) (h1 : Nat → Int32) (h2 : Nat → Int32) (h3 : Nat → Int32) (te : Int32) (li : Int32) (fi : Int32) (WI : Nat → Int32) (tn : Nat → Nat → Int32) (nS : Nat) : Int32 × Int32 × Int32 × Int32 × Int32 × Int32 × Int32 × Int32 × Int32 × Int32 × Int32 × Int32 × Int64 × Int32 × (Nat → Int32) × (Nat → Int32) × (Nat → Int32) × (Nat → Int32) :=
  let u1 := f_X4_clear h0 h1 h2 h3
  let x2 := ((li * (WI 10)) / 4)
  let X3 := itN (f_X4_start_l24 fi tn) nS u1.2.2.2.2.2.2.2.2.2.2.2.2.2.2.1
  let x10 := ((WI 11) / 2)
  (x10, u1.2.1, u1.2.2.1, u1.2.2.2.1, x2, te, u1.2.2.2.2.2.2.1, u1.2.2.2.2.2.2.2.1, u1.2.2.2.2.2.2.2.2.1, u1.2.2.2.2.2.2.2.2.2.1, u1.2.2.2.2.2.2.2.2.2.2.1, u1.2.2.2.2.2.2.2.2.2.2.2.1, u1.2.2.2.2.2.2.2.2.2.2.2.2.1, u1.2.2.2.2.2.2.2.2.2.2.2.2.2.1, X3, u1.2.2.2.2.2.2.2.2.2.2.2.2.2.2.2.1, u1.2.2.2.2.2.2.2.2.2.2.2.2.2.2.2.2.1, u1.2.2.2.2.2.2.2.2.2.2.2.2.2.2.2.2.2)
abbrev q_X4_start (D : va_G) (k : KK) (st : Nat) (sr : Nat → Nat) (I : Nat → Int32) (L : Nat → Int64) (h0 : Nat → Int32) (h1 : Nat → Int32) (h2 : Nat → Int32) (h3 : Nat → Int32) (te : Int32) (li : Int32) (fi : Int32) (wa : Nat) (wd : WAd) (WI : Nat → Int32) (pr : Nat → Int32) (SI : Nat → Nat → Int32) (OI : Nat → Nat → Int32) (tn : Nat → Nat → Int32) (nS : Nat) (nO : Nat) (A : Nat → Prop) : Array Value → State → Outcome → State → Prop := va_Qv (fun (u : Int32 × Int32 × Int32 × Int32 × Int32 × Int32 × Int32 × Int32 × Int32 × Int32 × Int32 × Int32 × Int64 × Int32 × (Nat → Int32) × (Nat → Int32) × (Nat → Int32) × (Nat → Int32)) => u = f_X4_start h0 h1 h2 h3 te li fi WI tn nS ∧ (u.2.2.2.2.2.2.2.2.2.2.2.2.2.1 = 0 ∨ u.2.2.2.2.2.2.2.2.2.2.2.2.2.1 = 1)) (bx D (fun u => [(st, eST sr (upd (upd (upd (upd (upd (upd (upd (upd (upd (upd (upd (upd (upd I 4 u.1) 5 u.2.1) 6 u.2.2.1) 7 u.2.2.2.1) 8 u.2.2.2.2.1) 9 u.2.2.2.2.2.1) 10 u.2.2.2.2.2.2.1) 11 u.2.2.2.2.2.2.2.1) 12 u.2.2.2.2.2.2.2.2.1) 13 u.2.2.2.2.2.2.2.2.2.1) 14 u.2.2.2.2.2.2.2.2.2.2.1) 15 u.2.2.2.2.2.2.2.2.2.2.2.1) 17 u.2.2.2.2.2.2.2.2.2.2.2.2.2.1) (vp_updL L 16 u.2.2.2.2.2.2.2.2.2.2.2.2.1)), ((sr 0), aI k 5 u.2.2.2.2.2.2.2.2.2.2.2.2.2.2.1), ((sr 1), aI k 5 u.2.2.2.2.2.2.2.2.2.2.2.2.2.2.2.1), ((sr 2), aI k 5 u.2.2.2.2.2.2.2.2.2.2.2.2.2.2.2.2.1), ((sr 3), aI k 5 u.2.2.2.2.2.2.2.2.2.2.2.2.2.2.2.2.2)]) A) A
abbrev rm_X4_start : Room := { frames := 2, cells := 0, slots := 0, locals := 80 }
theorem xo_X4_start : xok yX4_start 4 := by unfold xok; decide +kernel
set_option maxHeartbeats 8000000 in
theorem m_X4_start (l : Launch) (D : va_G) (k : KK) (sz : Nat) (st : Nat) (sr : Nat → Nat) (I : Nat → Int32) (L : Nat → Int64) (h0 : Nat → Int32) (h1 : Nat → Int32) (h2 : Nat → Int32) (h3 : Nat → Int32) (te : Int32) (li : Int32) (fi : Int32) (wa : Nat) (wd : WAd) (WI : Nat → Int32) (pr : Nat → Int32) (SI : Nat → Nat → Int32) (OI : Nat → Nat → Int32) (tn : Nat → Nat → Int32) (nS : Nat) (nO : Nat) (hnS : WI 3 = nI nS) (hnO : WI 4 = nI nO) (hS2 : 2 ≤ nS) (hS5 : nS ≤ 5) (hO4 : nO ≤ 4) (hO1 : 1 ≤ nO) : Met l yX4_start (ws_ yX4_start cX4_start 6 none) rm_X4_start (pcx D k [.ref st, .ref wa, .int te, .int li, .int fi] sz [(st, eST sr I L), ((sr 0), aI k 5 h0), ((sr 1), aI k 5 h1), ((sr 2), aI k 5 h2), ((sr 3), aI k 5 h3)] (wkY D k wa wd WI pr SI OI tn nS nO (va_A [(st, eST sr I L), ((sr 0), aI k 5 h0), ((sr 1), aI k 5 h1), ((sr 2), aI k 5 h2), ((sr 3), aI k 5 h3)] sz))) (q_X4_start D k st sr I L h0 h1 h2 h3 te li fi wa wd WI pr SI OI tn nS nO (va_A [(st, eST sr I L), ((sr 0), aI k 5 h0), ((sr 1), aI k 5 h1), ((sr 2), aI k 5 h2), ((sr 3), aI k 5 h3)] sz)) 0 0 (va_A [(st, eST sr I L), ((sr 0), aI k 5 h0), ((sr 1), aI k 5 h1), ((sr 2), aI k 5 h2), ((sr 3), aI k 5 h3)] sz) := by
  refine Met.start (Qc := q_X4_start D k st sr I L h0 h1 h2 h3 te li fi wa wd WI pr SI OI tn nS nO) (by decide) (Nat.le_of_ble_eq_true rfl) ?_
  intro p e s m below meth c A hx hb hr hlocks hml hown hin hts hg hP hD hA hAn hS hY hsz ls hl
  have hown : s.vm.findClass RX4 = some m.cls := hown
  have hl : lv_has ls 6 [(0, .ref st), (1, .ref wa), (2, .int te), (3, .int li), (4, .int fi)] := hl
  have hW := wkY.mono hY hAn
  refine lv_aload_n hx hb dX4_start_0 rfl (lv_at hl 0 rfl) ?_
  refine xc_v (wc := [(st, eST sr I L), ((sr 0), aI k 5 h0), ((sr 1), aI k 5 h1), ((sr 2), aI k 5 h2), ((sr 3), aI k 5 h3)]) (wr := []) hP hD hS hA [0, 1, 2, 3, 4] [] rfl rfl rfl (by decide) (xrV ⟨hx, hb, hml, hown, hts⟩ hg (m_X4_clear l D k _ st sr I L h0 h1 h2 h3) hP hD [0, 1, 2, 3, 4] rfl rfl trivial (ci := 3) (q0 := 0) rfl rfl rfl q973 q855 q856 q89 q857 xo_X4_clear ⟨rfl, rfl⟩ ⟨Nat.le_of_ble_eq_true rfl, Nat.le_of_ble_eq_true rfl⟩ hl.1 (Nat.le_of_ble_eq_true rfl) dX4_start_1 ⟨Nat.le_of_ble_eq_true rfl, Nat.le_of_ble_eq_true rfl⟩ rfl) (fun u1 H locs hw hP hD hS hk => ?_)
  obtain ⟨eu1, bu1_13⟩ := hw
  replace hP : va_P D vwCl [(st, eST sr (upd (upd (upd (upd (upd (upd (upd (upd (upd (upd (upd (upd (upd I 4 u1.1) 5 u1.2.1) 6 u1.2.2.1) 7 u1.2.2.2.1) 8 u1.2.2.2.2.1) 9 u1.2.2.2.2.2.1) 10 u1.2.2.2.2.2.2.1) 11 u1.2.2.2.2.2.2.2.1) 12 u1.2.2.2.2.2.2.2.2.1) 13 u1.2.2.2.2.2.2.2.2.2.1) 14 u1.2.2.2.2.2.2.2.2.2.2.1) 15 u1.2.2.2.2.2.2.2.2.2.2.2.1) 17 u1.2.2.2.2.2.2.2.2.2.2.2.2.2.1) (vp_updL L 16 u1.2.2.2.2.2.2.2.2.2.2.2.2.1)), ((sr 0), aI k 5 u1.2.2.2.2.2.2.2.2.2.2.2.2.2.2.1), ((sr 1), aI k 5 u1.2.2.2.2.2.2.2.2.2.2.2.2.2.2.2.1), ((sr 2), aI k 5 u1.2.2.2.2.2.2.2.2.2.2.2.2.2.2.2.2.1), ((sr 3), aI k 5 u1.2.2.2.2.2.2.2.2.2.2.2.2.2.2.2.2.2)] H := hP.sub [0, 1, 2, 3, 4] rfl
  replace hD : va_D A [(st, eST sr (upd (upd (upd (upd (upd (upd (upd (upd (upd (upd (upd (upd (upd I 4 u1.1) 5 u1.2.1) 6 u1.2.2.1) 7 u1.2.2.2.1) 8 u1.2.2.2.2.1) 9 u1.2.2.2.2.2.1) 10 u1.2.2.2.2.2.2.1) 11 u1.2.2.2.2.2.2.2.1) 12 u1.2.2.2.2.2.2.2.2.1) 13 u1.2.2.2.2.2.2.2.2.2.1) 14 u1.2.2.2.2.2.2.2.2.2.2.1) 15 u1.2.2.2.2.2.2.2.2.2.2.2.1) 17 u1.2.2.2.2.2.2.2.2.2.2.2.2.2.1) (vp_updL L 16 u1.2.2.2.2.2.2.2.2.2.2.2.2.1)), ((sr 0), aI k 5 u1.2.2.2.2.2.2.2.2.2.2.2.2.2.2.1), ((sr 1), aI k 5 u1.2.2.2.2.2.2.2.2.2.2.2.2.2.2.2.1), ((sr 2), aI k 5 u1.2.2.2.2.2.2.2.2.2.2.2.2.2.2.2.2.1), ((sr 3), aI k 5 u1.2.2.2.2.2.2.2.2.2.2.2.2.2.2.2.2.2)] := hD.sub [0, 1, 2, 3, 4] (by decide) rfl
  refine lv_aload_n hx hb dX4_start_4 rfl (lv_at hl 0 rfl) ?_
  refine lv_iload_n hx hb dX4_start_5 rfl (lv_at hl 2 rfl) ?_
  refine va_put (D := D) (ci := 3) (v := .int te) (C := RX4) (T := TX4) (N := 18) hx hb hts in_X4 tyX4 tyX4_ok nmX4 hown hg.1 hP hD hS 0 rfl rfl 9 (Nat.le_of_ble_eq_true rfl) (hts _ q251) (fun _ h9 => h9) rfl ftX4_9 rfl rfl (Nat.le_of_ble_eq_true rfl) dX4_start_6 (fun H locs hP hD hS => ?_)
  replace hP : va_P D vwCl [(st, eST sr (upd (upd (upd (upd (upd (upd (upd (upd (upd (upd (upd (upd (upd I 4 u1.1) 5 u1.2.1) 6 u1.2.2.1) 7 u1.2.2.2.1) 8 u1.2.2.2.2.1) 10 u1.2.2.2.2.2.2.1) 11 u1.2.2.2.2.2.2.2.1) 12 u1.2.2.2.2.2.2.2.2.1) 13 u1.2.2.2.2.2.2.2.2.2.1) 14 u1.2.2.2.2.2.2.2.2.2.2.1) 15 u1.2.2.2.2.2.2.2.2.2.2.2.1) 17 u1.2.2.2.2.2.2.2.2.2.2.2.2.2.1) 9 te) (vp_updL L 16 u1.2.2.2.2.2.2.2.2.2.2.2.2.1)), ((sr 0), aI k 5 u1.2.2.2.2.2.2.2.2.2.2.2.2.2.2.1), ((sr 1), aI k 5 u1.2.2.2.2.2.2.2.2.2.2.2.2.2.2.2.1), ((sr 2), aI k 5 u1.2.2.2.2.2.2.2.2.2.2.2.2.2.2.2.2.1), ((sr 3), aI k 5 u1.2.2.2.2.2.2.2.2.2.2.2.2.2.2.2.2.2)] H := hP
  replace hD : va_D A [(st, eST sr (upd (upd (upd (upd (upd (upd (upd (upd (upd (upd (upd (upd (upd I 4 u1.1) 5 u1.2.1) 6 u1.2.2.1) 7 u1.2.2.2.1) 8 u1.2.2.2.2.1) 10 u1.2.2.2.2.2.2.1) 11 u1.2.2.2.2.2.2.2.1) 12 u1.2.2.2.2.2.2.2.2.1) 13 u1.2.2.2.2.2.2.2.2.2.1) 14 u1.2.2.2.2.2.2.2.2.2.2.1) 15 u1.2.2.2.2.2.2.2.2.2.2.2.1) 17 u1.2.2.2.2.2.2.2.2.2.2.2.2.2.1) 9 te) (vp_updL L 16 u1.2.2.2.2.2.2.2.2.2.2.2.2.1)), ((sr 0), aI k 5 u1.2.2.2.2.2.2.2.2.2.2.2.2.2.2.1), ((sr 1), aI k 5 u1.2.2.2.2.2.2.2.2.2.2.2.2.2.2.2.1), ((sr 2), aI k 5 u1.2.2.2.2.2.2.2.2.2.2.2.2.2.2.2.2.1), ((sr 3), aI k 5 u1.2.2.2.2.2.2.2.2.2.2.2.2.2.2.2.2.2)] := hD
  refine lv_aload_n hx hb dX4_start_9 rfl (lv_at hl 0 rfl) ?_
  refine lv_iload_n hx hb dX4_start_10 rfl (lv_at hl 3 rfl) ?_
  refine lv_aload_n hx hb dX4_start_11 rfl (lv_at hl 1 rfl) ?_
  refine va_get (D := D) (ci := 7) (v := .int (WI 10)) (C := RX9) (T := TX9) (N := 13) hx hb hts in_X9 hown hg.1 (wkat hW hS).1 0 rfl rfl 10 (Nat.le_of_ble_eq_true rfl) (hts _ q529) (fun _ h9 => h9) rfl dX4_start_12 ?_
  refine lv_imul hx hb dX4_start_15 ?_
  refine lv_iconst (v := 4) hx hb dX4_start_16 ci_4 ?_
  refine lv_idiv hx hb dX4_start_17 (by decide) ?_
  refine lv_topi (fun x2 ex2 => ?_)
  refine va_put (D := D) (ci := 3) (v := .int x2) (C := RX4) (T := TX4) (N := 18) hx hb hts in_X4 tyX4 tyX4_ok nmX4 hown hg.1 hP hD hS 0 rfl rfl 8 (Nat.le_of_ble_eq_true rfl) (hts _ q249) (fun _ h9 => h9) rfl ftX4_8 rfl rfl (Nat.le_of_ble_eq_true rfl) dX4_start_18 (fun H locs hP hD hS => ?_)
  replace hP : va_P D vwCl [(st, eST sr (upd (upd (upd (upd (upd (upd (upd (upd (upd (upd (upd (upd (upd I 4 u1.1) 5 u1.2.1) 6 u1.2.2.1) 7 u1.2.2.2.1) 10 u1.2.2.2.2.2.2.1) 11 u1.2.2.2.2.2.2.2.1) 12 u1.2.2.2.2.2.2.2.2.1) 13 u1.2.2.2.2.2.2.2.2.2.1) 14 u1.2.2.2.2.2.2.2.2.2.2.1) 15 u1.2.2.2.2.2.2.2.2.2.2.2.1) 17 u1.2.2.2.2.2.2.2.2.2.2.2.2.2.1) 9 te) 8 x2) (vp_updL L 16 u1.2.2.2.2.2.2.2.2.2.2.2.2.1)), ((sr 0), aI k 5 u1.2.2.2.2.2.2.2.2.2.2.2.2.2.2.1), ((sr 1), aI k 5 u1.2.2.2.2.2.2.2.2.2.2.2.2.2.2.2.1), ((sr 2), aI k 5 u1.2.2.2.2.2.2.2.2.2.2.2.2.2.2.2.2.1), ((sr 3), aI k 5 u1.2.2.2.2.2.2.2.2.2.2.2.2.2.2.2.2.2)] H := hP
  replace hD : va_D A [(st, eST sr (upd (upd (upd (upd (upd (upd (upd (upd (upd (upd (upd (upd (upd I 4 u1.1) 5 u1.2.1) 6 u1.2.2.1) 7 u1.2.2.2.1) 10 u1.2.2.2.2.2.2.1) 11 u1.2.2.2.2.2.2.2.1) 12 u1.2.2.2.2.2.2.2.2.1) 13 u1.2.2.2.2.2.2.2.2.2.1) 14 u1.2.2.2.2.2.2.2.2.2.2.1) 15 u1.2.2.2.2.2.2.2.2.2.2.2.1) 17 u1.2.2.2.2.2.2.2.2.2.2.2.2.2.1) 9 te) 8 x2) (vp_updL L 16 u1.2.2.2.2.2.2.2.2.2.2.2.2.1)), ((sr 0), aI k 5 u1.2.2.2.2.2.2.2.2.2.2.2.2.2.2.1), ((sr 1), aI k 5 u1.2.2.2.2.2.2.2.2.2.2.2.2.2.2.2.1), ((sr 2), aI k 5 u1.2.2.2.2.2.2.2.2.2.2.2.2.2.2.2.2.1), ((sr 3), aI k 5 u1.2.2.2.2.2.2.2.2.2.2.2.2.2.2.2.2.2)] := hD
  refine lv_iconst (v := 0) hx hb dX4_start_21 ci_0 ?_
  refine lv_istore (lv' := [(5, .int 0), (0, .ref st), (1, .ref wa), (2, .int te), (3, .int li), (4, .int fi)]) hx hb dX4_start_22 hl (Nat.le_of_ble_eq_true rfl) rfl (fun ls hl => ?_)
  have loop3 : ∀ (n3 i3 : Nat) (X3 : (Nat → Int32)) (H : Heap) (locs : List Loc) (ls : Array Slot), i3 + n3 = nS → X3 = itN (f_X4_start_l24 fi tn) i3 u1.2.2.2.2.2.2.2.2.2.2.2.2.2.2.1 → va_P D vwCl [(st, eST sr (upd (upd (upd (upd (upd (upd (upd (upd (upd (upd (upd (upd (upd I 4 u1.1) 5 u1.2.1) 6 u1.2.2.1) 7 u1.2.2.2.1) 10 u1.2.2.2.2.2.2.1) 11 u1.2.2.2.2.2.2.2.1) 12 u1.2.2.2.2.2.2.2.2.1) 13 u1.2.2.2.2.2.2.2.2.2.1) 14 u1.2.2.2.2.2.2.2.2.2.2.1) 15 u1.2.2.2.2.2.2.2.2.2.2.2.1) 17 u1.2.2.2.2.2.2.2.2.2.2.2.2.2.1) 9 te) 8 x2) (vp_updL L 16 u1.2.2.2.2.2.2.2.2.2.2.2.2.1)), ((sr 0), aI k 5 X3), ((sr 1), aI k 5 u1.2.2.2.2.2.2.2.2.2.2.2.2.2.2.2.1), ((sr 2), aI k 5 u1.2.2.2.2.2.2.2.2.2.2.2.2.2.2.2.2.1), ((sr 3), aI k 5 u1.2.2.2.2.2.2.2.2.2.2.2.2.2.2.2.2.2)] H → va_D A [(st, eST sr (upd (upd (upd (upd (upd (upd (upd (upd (upd (upd (upd (upd (upd I 4 u1.1) 5 u1.2.1) 6 u1.2.2.1) 7 u1.2.2.2.1) 10 u1.2.2.2.2.2.2.1) 11 u1.2.2.2.2.2.2.2.1) 12 u1.2.2.2.2.2.2.2.2.1) 13 u1.2.2.2.2.2.2.2.2.2.1) 14 u1.2.2.2.2.2.2.2.2.2.2.1) 15 u1.2.2.2.2.2.2.2.2.2.2.2.1) 17 u1.2.2.2.2.2.2.2.2.2.2.2.2.2.1) 9 te) 8 x2) (vp_updL L 16 u1.2.2.2.2.2.2.2.2.2.2.2.2.1)), ((sr 0), aI k 5 X3), ((sr 1), aI k 5 u1.2.2.2.2.2.2.2.2.2.2.2.2.2.2.2.1), ((sr 2), aI k 5 u1.2.2.2.2.2.2.2.2.2.2.2.2.2.2.2.2.1), ((sr 3), aI k 5 u1.2.2.2.2.2.2.2.2.2.2.2.2.2.2.2.2.2)] → va_S A s.heap H locs → lv_has ls 6 [(5, .int (nI i3)), (0, .ref st), (1, .ref wa), (2, .int te), (3, .int li), (4, .int fi)] → W p l e rm_X4_start s m ([.ref st, .ref wa, .int te, .int li, .int fi] : List Value).toArray below meth c H locs 0 0 (MQ below (q_X4_start D k st sr I L h0 h1 h2 h3 te li fi wa wd WI pr SI OI tn nS nO A) ([.ref st, .ref wa, .int te, .int li, .int fi] : List Value).toArray s 0 0 A) (F0 m 24 ls []) := by
    intro n3
    induction n3 with
    | zero =>
      intro i3 X3 H locs ls hn3 eX3 hP hD hS hl
      have hi3 : i3 = nS := by omega
      rw [hi3] at eX3
      refine lv_iload hx hb dX4_start_24 (lv_at hl 0 rfl) ?_
      refine lv_aload_n hx hb dX4_start_26 rfl (lv_at hl 2 rfl) ?_
      refine va_get (D := D) (ci := 7) (v := .int (WI 3)) (C := RX9) (T := TX9) (N := 13) hx hb hts in_X9 hown hg.1 (wkat hW hS).1 0 rfl rfl 3 (Nat.le_of_ble_eq_true rfl) (hts _ q502) (fun _ h9 => h9) rfl dX4_start_27 ?_
      refine lv_icmp_ge (tgt := 61) hx hb dX4_start_30 (by decide) (fun _ => ?_) (fun c => absurd (xle_t hnS rfl (by omega) (by omega)) c)
      refine lv_aload_n hx hb dX4_start_61 rfl (lv_at hl 1 rfl) ?_
      refine lv_aload_n hx hb dX4_start_62 rfl (lv_at hl 2 rfl) ?_
      refine va_get (D := D) (ci := 7) (v := .int (WI 11)) (C := RX9) (T := TX9) (N := 13) hx hb hts in_X9 hown hg.1 (wkat hW hS).1 0 rfl rfl 11 (Nat.le_of_ble_eq_true rfl) (hts _ q533) (fun _ h9 => h9) rfl dX4_start_63 ?_
      refine lv_iconst (v := 2) hx hb dX4_start_66 ci_2 ?_
      refine lv_idiv hx hb dX4_start_67 (by decide) ?_
      refine lv_topi (fun x10 ex10 => ?_)
      refine va_put (D := D) (ci := 3) (v := .int x10) (C := RX4) (T := TX4) (N := 18) hx hb hts in_X4 tyX4 tyX4_ok nmX4 hown hg.1 hP hD hS 0 rfl rfl 4 (Nat.le_of_ble_eq_true rfl) (hts _ q241) (fun _ h9 => h9) rfl ftX4_4 rfl rfl (Nat.le_of_ble_eq_true rfl) dX4_start_68 (fun H locs hP hD hS => ?_)
      replace hP : va_P D vwCl [(st, eST sr (upd (upd (upd (upd (upd (upd (upd (upd (upd (upd (upd (upd (upd I 5 u1.2.1) 6 u1.2.2.1) 7 u1.2.2.2.1) 10 u1.2.2.2.2.2.2.1) 11 u1.2.2.2.2.2.2.2.1) 12 u1.2.2.2.2.2.2.2.2.1) 13 u1.2.2.2.2.2.2.2.2.2.1) 14 u1.2.2.2.2.2.2.2.2.2.2.1) 15 u1.2.2.2.2.2.2.2.2.2.2.2.1) 17 u1.2.2.2.2.2.2.2.2.2.2.2.2.2.1) 9 te) 8 x2) 4 x10) (vp_updL L 16 u1.2.2.2.2.2.2.2.2.2.2.2.2.1)), ((sr 0), aI k 5 X3), ((sr 1), aI k 5 u1.2.2.2.2.2.2.2.2.2.2.2.2.2.2.2.1), ((sr 2), aI k 5 u1.2.2.2.2.2.2.2.2.2.2.2.2.2.2.2.2.1), ((sr 3), aI k 5 u1.2.2.2.2.2.2.2.2.2.2.2.2.2.2.2.2.2)] H := hP
      replace hD : va_D A [(st, eST sr (upd (upd (upd (upd (upd (upd (upd (upd (upd (upd (upd (upd (upd I 5 u1.2.1) 6 u1.2.2.1) 7 u1.2.2.2.1) 10 u1.2.2.2.2.2.2.1) 11 u1.2.2.2.2.2.2.2.1) 12 u1.2.2.2.2.2.2.2.2.1) 13 u1.2.2.2.2.2.2.2.2.2.1) 14 u1.2.2.2.2.2.2.2.2.2.2.1) 15 u1.2.2.2.2.2.2.2.2.2.2.2.1) 17 u1.2.2.2.2.2.2.2.2.2.2.2.2.2.1) 9 te) 8 x2) 4 x10) (vp_updL L 16 u1.2.2.2.2.2.2.2.2.2.2.2.2.1)), ((sr 0), aI k 5 X3), ((sr 1), aI k 5 u1.2.2.2.2.2.2.2.2.2.2.2.2.2.2.2.1), ((sr 2), aI k 5 u1.2.2.2.2.2.2.2.2.2.2.2.2.2.2.2.2.1), ((sr 3), aI k 5 u1.2.2.2.2.2.2.2.2.2.2.2.2.2.2.2.2.2)] := hD
      exact xret_v hx hb hr hlocks (Nat.le_of_ble_eq_true rfl) (Nat.le_of_ble_eq_true rfl) hS.2.2 dX4_start_71 (fun t ht => ⟨⟨(x10, u1.2.1, u1.2.2.1, u1.2.2.2.1, x2, te, u1.2.2.2.2.2.2.1, u1.2.2.2.2.2.2.2.1, u1.2.2.2.2.2.2.2.2.1, u1.2.2.2.2.2.2.2.2.2.1, u1.2.2.2.2.2.2.2.2.2.2.1, u1.2.2.2.2.2.2.2.2.2.2.2.1, u1.2.2.2.2.2.2.2.2.2.2.2.2.1, u1.2.2.2.2.2.2.2.2.2.2.2.2.2.1, X3, u1.2.2.2.2.2.2.2.2.2.2.2.2.2.2.2.1, u1.2.2.2.2.2.2.2.2.2.2.2.2.2.2.2.2.1, u1.2.2.2.2.2.2.2.2.2.2.2.2.2.2.2.2.2), rfl, ⟨(by subst ex10; subst eX3; subst ex2; subst eu1; exact rfl), bu1_13⟩, by rw [ht]; exact hP, hD⟩, hS.F ht⟩)
    | succ n3 ih3 =>
      intro i3 X3 H locs ls hn3 eX3 hP hD hS hl
      have hi3 : i3 < nS := by omega
      refine lv_iload hx hb dX4_start_24 (lv_at hl 0 rfl) ?_
      refine lv_aload_n hx hb dX4_start_26 rfl (lv_at hl 2 rfl) ?_
      refine va_get (D := D) (ci := 7) (v := .int (WI 3)) (C := RX9) (T := TX9) (N := 13) hx hb hts in_X9 hown hg.1 (wkat hW hS).1 0 rfl rfl 3 (Nat.le_of_ble_eq_true rfl) (hts _ q502) (fun _ h9 => h9) rfl dX4_start_27 ?_
      refine lv_icmp_ge (tgt := 61) hx hb dX4_start_30 (by decide) (fun c => absurd c (xle_f hnS rfl (by omega) (by omega))) (fun _ => ?_)
      refine lv_aload_n hx hb dX4_start_33 rfl (lv_at hl 1 rfl) ?_
      refine va_get (D := D) (ci := 3) (v := .ref (sr 0)) (C := RX4) (T := TX4) (N := 18) hx hb hts in_X4 hown hg.1 hP 0 rfl rfl 0 (Nat.le_of_ble_eq_true rfl) (hts _ q233) (fun _ h9 => h9) rfl dX4_start_34 ?_
      refine lv_iload hx hb dX4_start_37 (lv_at hl 0 rfl) ?_
      refine lv_iload hx hb dX4_start_39 (lv_at hl 5 rfl) ?_
      refine lv_aload_n hx hb dX4_start_41 rfl (lv_at hl 2 rfl) ?_
      refine va_get (D := D) (ci := 7) (v := .ref (wd.1 1)) (C := RX9) (T := TX9) (N := 13) hx hb hts in_X9 hown hg.1 (wkat hW hS).1 0 rfl rfl 1 (Nat.le_of_ble_eq_true rfl) (hts _ q495) (fun _ h9 => h9) rfl dX4_start_42 ?_
      refine lv_iconst (v := 0) hx hb dX4_start_45 ci_0 ?_
      refine xa_aald hx hb hg (wkat hW hS).1 2 7 rfl rfl xl_0 (by omega) (by omega) (b := (wd.2.2.2.2.1 0)) ((wkat hW hS).2.2 0 (by omega)).1 dX4_start_46 ?_
      refine va_get (D := D) (ci := 9) (v := .ref ((wd.2.2.2.2.2.2 0) 2)) (C := RX12) (T := TX12) (N := 3) hx hb hts in_X12 hown hg.1 ((wkat hW hS).2.2 0 (by omega)).2 0 rfl rfl 2 (Nat.le_of_ble_eq_true rfl) (hts _ q841) (fun _ h9 => h9) rfl dX4_start_47 ?_
      refine lv_iload hx hb dX4_start_50 (lv_at hl 0 rfl) ?_
      refine xa_iald hx hb hg ((wkat hW hS).2.2 0 (by omega)).2 1 rfl rfl (by first | omega | exact Nat.lt_of_lt_of_le (Nat.mod_lt _ (by omega)) (by omega)) (by omega) dX4_start_52 ?_
      refine lv_imul hx hb dX4_start_53 ?_
      refine lv_topi (fun x11 ex11 => ?_)
      refine xa_iast hx hb hg hP hD hS 1 rfl rfl (by omega) (by omega) dX4_start_54 (fun f12 H locs ef12 hP hD hS => ?_)
      replace hP : va_P D vwCl [(st, eST sr (upd (upd (upd (upd (upd (upd (upd (upd (upd (upd (upd (upd (upd I 4 u1.1) 5 u1.2.1) 6 u1.2.2.1) 7 u1.2.2.2.1) 10 u1.2.2.2.2.2.2.1) 11 u1.2.2.2.2.2.2.2.1) 12 u1.2.2.2.2.2.2.2.2.1) 13 u1.2.2.2.2.2.2.2.2.2.1) 14 u1.2.2.2.2.2.2.2.2.2.2.1) 15 u1.2.2.2.2.2.2.2.2.2.2.2.1) 17 u1.2.2.2.2.2.2.2.2.2.2.2.2.2.1) 9 te) 8 x2) (vp_updL L 16 u1.2.2.2.2.2.2.2.2.2.2.2.2.1)), ((sr 0), aI k 5 f12), ((sr 1), aI k 5 u1.2.2.2.2.2.2.2.2.2.2.2.2.2.2.2.1), ((sr 2), aI k 5 u1.2.2.2.2.2.2.2.2.2.2.2.2.2.2.2.2.1), ((sr 3), aI k 5 u1.2.2.2.2.2.2.2.2.2.2.2.2.2.2.2.2.2)] H := hP
      replace hD : va_D A [(st, eST sr (upd (upd (upd (upd (upd (upd (upd (upd (upd (upd (upd (upd (upd I 4 u1.1) 5 u1.2.1) 6 u1.2.2.1) 7 u1.2.2.2.1) 10 u1.2.2.2.2.2.2.1) 11 u1.2.2.2.2.2.2.2.1) 12 u1.2.2.2.2.2.2.2.2.1) 13 u1.2.2.2.2.2.2.2.2.2.1) 14 u1.2.2.2.2.2.2.2.2.2.2.1) 15 u1.2.2.2.2.2.2.2.2.2.2.2.1) 17 u1.2.2.2.2.2.2.2.2.2.2.2.2.2.1) 9 te) 8 x2) (vp_updL L 16 u1.2.2.2.2.2.2.2.2.2.2.2.2.1)), ((sr 0), aI k 5 f12), ((sr 1), aI k 5 u1.2.2.2.2.2.2.2.2.2.2.2.2.2.2.2.1), ((sr 2), aI k 5 u1.2.2.2.2.2.2.2.2.2.2.2.2.2.2.2.2.1), ((sr 3), aI k 5 u1.2.2.2.2.2.2.2.2.2.2.2.2.2.2.2.2.2)] := hD
      refine lv_iinc (v := (nI (i3 + 1))) (lv' := [(5, .int (nI (i3 + 1))), (0, .ref st), (1, .ref wa), (2, .int te), (3, .int li), (4, .int fi)]) hx hb dX4_start_55 hl (k := 0) rfl (xinc1 _) (Nat.le_of_ble_eq_true rfl) rfl (fun ls hl => ?_)
      refine lv_goto (tgt := 24) hx hb dX4_start_58 (by decide) ?_
      exact ih3 (i3 + 1) f12 _ _ _ (by omega) (Eq.trans (by subst ef12; subst ex11; exact rfl) (congrArg (f_X4_start_l24 fi tn i3) eX3)) hP hD hS (lv_sub hl [0, 1, 2, 3, 4, 5] rfl)
  exact loop3 nS 0 u1.2.2.2.2.2.2.2.2.2.2.2.2.2.2.1 _ _ _ (by omega) rfl hP hD hS (by have h := (lv_sub hl [0, 1, 2, 3, 4, 5] rfl); exact h)
