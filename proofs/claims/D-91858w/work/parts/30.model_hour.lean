set_option maxRecDepth 100000
def f_X8_sumOf_l5 (sv : Nat → Int32) (fm0 : Nat) (i1 : Nat) (X1 : (Int32)) : (Int32) :=
  let x5 := (X1 + (sv (fm0 + i1)))
  x5
def f_X8_sumOf (sv : Nat → Int32) (fm0 : Nat) (nS : Nat) : Int32 :=
  let X1 := itN (f_X8_sumOf_l5 sv fm0) nS 0
  X1
abbrev q_X8_sumOf (D : va_G) (k : KK) (o : Nat) (r : Nat → Nat) (fr : Value) (I : Nat → Int32) (L : Nat → Int64) (ma : Nat) (mr : Nat → Nat) (MI : Nat → Int32) (sa : Nat) (sv : Nat → Int32) (fm : Int32) (fm0 : Nat) (nS : Nat) (A : Nat → Prop) : Array Value → State → Outcome → State → Prop := va_Qi (fun (r_ : Int32) (u : Int32) => r_ = u ∧ u = f_X8_sumOf sv fm0 nS) (bx D (fun u => [(o, eMM r (.ref ma) fr I L), (ma, eMI mr MI), (sa, aI k 37 sv)]) A) A
abbrev rm_X8_sumOf : Room := { frames := 1, cells := 0, slots := 0, locals := 40 }
theorem xo_X8_sumOf : xok yX8_sumOf 2 := by unfold xok; decide +kernel
set_option maxHeartbeats 8000000 in
theorem m_X8_sumOf (l : Launch) (D : va_G) (k : KK) (sz : Nat) (o : Nat) (r : Nat → Nat) (fr : Value) (I : Nat → Int32) (L : Nat → Int64) (ma : Nat) (mr : Nat → Nat) (MI : Nat → Int32) (sa : Nat) (sv : Nat → Int32) (fm : Int32) (fm0 : Nat) (nS : Nat) (hmS : MI 8 = nI nS) (hS2 : 2 ≤ nS) (hS5 : nS ≤ 5) (hfm : fm = nI fm0) (hfb : fm0 + 5 ≤ 37) : Met l yX8_sumOf (ws_ yX8_sumOf cX8_sumOf 5 (some .int)) rm_X8_sumOf (pcx D k [.ref o, .ref sa, .int fm] sz [(o, eMM r (.ref ma) fr I L), (ma, eMI mr MI), (sa, aI k 37 sv)] (fun _ => True)) (q_X8_sumOf D k o r fr I L ma mr MI sa sv fm fm0 nS (va_A [(o, eMM r (.ref ma) fr I L), (ma, eMI mr MI), (sa, aI k 37 sv)] sz)) 0 0 (va_A [(o, eMM r (.ref ma) fr I L), (ma, eMI mr MI), (sa, aI k 37 sv)] sz) := by
  refine Met.start (Qc := q_X8_sumOf D k o r fr I L ma mr MI sa sv fm fm0 nS) (by decide) (Nat.le_of_ble_eq_true rfl) ?_
  intro p e s m below meth c A hx hb hr hlocks hml hown hin hts hg hP hD hA hAn hS hY hsz ls hl
  have hown : s.vm.findClass RX8 = some m.cls := hown
  have hl : lv_has ls 5 [(0, .ref o), (1, .ref sa), (2, .int fm)] := hl
  refine lv_iconst (v := 0) hx hb dX8_sumOf_0 ci_0 ?_
  refine lv_istore_n (lv' := [(3, .int 0), (0, .ref o), (1, .ref sa), (2, .int fm)]) hx hb dX8_sumOf_1 rfl hl (Nat.le_of_ble_eq_true rfl) rfl (fun ls hl => ?_)
  refine lv_iconst (v := 0) hx hb dX8_sumOf_2 ci_0 ?_
  refine lv_istore (lv' := [(4, .int 0), (3, .int 0), (0, .ref o), (1, .ref sa), (2, .int fm)]) hx hb dX8_sumOf_3 hl (Nat.le_of_ble_eq_true rfl) rfl (fun ls hl => ?_)
  have loop1 : ∀ (n1 i1 : Nat) (X1 : (Int32)) (H : Heap) (locs : List Loc) (ls : Array Slot), i1 + n1 = nS → X1 = itN (f_X8_sumOf_l5 sv fm0) i1 0 → va_P D vwCl [(o, eMM r (.ref ma) fr I L), (ma, eMI mr MI), (sa, aI k 37 sv)] H → va_D A [(o, eMM r (.ref ma) fr I L), (ma, eMI mr MI), (sa, aI k 37 sv)] → va_S A s.heap H locs → lv_has ls 5 [(4, .int (nI i1)), (3, .int X1), (0, .ref o), (1, .ref sa), (2, .int fm)] → W p l e rm_X8_sumOf s m ([.ref o, .ref sa, .int fm] : List Value).toArray below meth c H locs 0 0 (MQ below (q_X8_sumOf D k o r fr I L ma mr MI sa sv fm fm0 nS A) ([.ref o, .ref sa, .int fm] : List Value).toArray s 0 0 A) (F0 m 5 ls []) := by
    intro n1
    induction n1 with
    | zero =>
      intro i1 X1 H locs ls hn1 eX1 hP hD hS hl
      have hi1 : i1 = nS := by omega
      rw [hi1] at eX1
      refine lv_iload hx hb dX8_sumOf_5 (lv_at hl 0 rfl) ?_
      refine lv_aload_n hx hb dX8_sumOf_7 rfl (lv_at hl 2 rfl) ?_
      refine va_get (D := D) (ci := 10) (v := .ref ma) (C := RX8) (T := TX8) (N := 37) hx hb hts in_X8 hown hg.1 hP 0 rfl rfl 3 (Nat.le_of_ble_eq_true rfl) (hts _ q1144) (fun _ h9 => h9) rfl dX8_sumOf_8 ?_
      refine va_getN (D := D) (ci := 11) (v := .int (MI 8)) (C := RX13) (T := TX13) (N := 18) hx hb hts in_X13 hown hg.1 hP 1 rfl rfl 8 (Nat.le_of_ble_eq_true rfl) (nwF_191 hg) (fun _ h9 => h9) rfl dX8_sumOf_11 ?_
      refine lv_icmp_ge (tgt := 32) hx hb dX8_sumOf_14 (by decide) (fun _ => ?_) (fun c => absurd (xle_t hmS rfl (by omega) (by omega)) c)
      refine lv_iload_n hx hb dX8_sumOf_32 rfl (lv_at hl 1 rfl) ?_
      exact xret_i hx hb hr hlocks (Nat.le_of_ble_eq_true rfl) (Nat.le_of_ble_eq_true rfl) hS.2.2 dX8_sumOf_33 (fun t ht => ⟨⟨X1, X1, rfl, ⟨rfl, (by subst eX1; exact rfl)⟩, by rw [ht]; exact hP, hD⟩, hS.F ht⟩)
    | succ n1 ih1 =>
      intro i1 X1 H locs ls hn1 eX1 hP hD hS hl
      have hi1 : i1 < nS := by omega
      refine lv_iload hx hb dX8_sumOf_5 (lv_at hl 0 rfl) ?_
      refine lv_aload_n hx hb dX8_sumOf_7 rfl (lv_at hl 2 rfl) ?_
      refine va_get (D := D) (ci := 10) (v := .ref ma) (C := RX8) (T := TX8) (N := 37) hx hb hts in_X8 hown hg.1 hP 0 rfl rfl 3 (Nat.le_of_ble_eq_true rfl) (hts _ q1144) (fun _ h9 => h9) rfl dX8_sumOf_8 ?_
      refine va_getN (D := D) (ci := 11) (v := .int (MI 8)) (C := RX13) (T := TX13) (N := 18) hx hb hts in_X13 hown hg.1 hP 1 rfl rfl 8 (Nat.le_of_ble_eq_true rfl) (nwF_191 hg) (fun _ h9 => h9) rfl dX8_sumOf_11 ?_
      refine lv_icmp_ge (tgt := 32) hx hb dX8_sumOf_14 (by decide) (fun c => absurd c (xle_f hmS rfl (by omega) (by omega))) (fun _ => ?_)
      refine lv_iload_n hx hb dX8_sumOf_17 rfl (lv_at hl 1 rfl) ?_
      refine lv_aload_n hx hb dX8_sumOf_18 rfl (lv_at hl 3 rfl) ?_
      refine lv_iload_n hx hb dX8_sumOf_19 rfl (lv_at hl 4 rfl) ?_
      refine lv_iload hx hb dX8_sumOf_20 (lv_at hl 0 rfl) ?_
      refine lv_iadd hx hb dX8_sumOf_22 ?_
      refine xa_iald hx hb hg hP 2 rfl (xnadd hfm rfl) (by first | omega | exact Nat.lt_of_lt_of_le (Nat.mod_lt _ (by omega)) (by omega)) (by omega) dX8_sumOf_23 ?_
      refine lv_iadd hx hb dX8_sumOf_24 ?_
      refine lv_topi (fun x5 ex5 => ?_)
      refine lv_istore_n (lv' := [(3, .int x5), (4, .int (nI i1)), (0, .ref o), (1, .ref sa), (2, .int fm)]) hx hb dX8_sumOf_25 rfl hl (Nat.le_of_ble_eq_true rfl) rfl (fun ls hl => ?_)
      refine lv_iinc (v := (nI (i1 + 1))) (lv' := [(4, .int (nI (i1 + 1))), (3, .int x5), (0, .ref o), (1, .ref sa), (2, .int fm)]) hx hb dX8_sumOf_26 hl (k := 1) rfl (xinc1 _) (Nat.le_of_ble_eq_true rfl) rfl (fun ls hl => ?_)
      refine lv_goto (tgt := 5) hx hb dX8_sumOf_29 (by decide) ?_
      exact ih1 (i1 + 1) x5 _ _ _ (by omega) (Eq.trans (by subst ex5; exact rfl) (congrArg (f_X8_sumOf_l5 sv fm0 i1) eX1)) hP hD hS (lv_sub hl [0, 1, 2, 3, 4] rfl)
  exact loop1 nS 0 0 _ _ _ (by omega) rfl hP hD hS (by have h := (lv_sub hl [0, 1, 2, 3, 4] rfl); exact h)

def f_X8_digs_j4 (X1 : (Nat → Int32)) (i1 : Nat) : (Int32) :=
  if (((X1 (0 + i1)) / 10) + 1) ≤ (X1 (0 + i1)) then
    (((X1 (0 + i1)) / 10) + 1)
  else
    (X1 (0 + i1))
def f_X8_digs_l2  (i1 : Nat) (X1 : (Nat → Int32)) : (Nat → Int32) :=
  let v28 := f_X8_digs_j4 X1 i1
  let x29 := ((X1 (0 + i1)) - v28)
  let f30 := upd X1 (0 + i1) x29
  let x31 := ((f30 21) + v28)
  let f32 := upd f30 21 x31
  f32
def f_X8_digs (sv : Nat → Int32) (nS : Nat) : (Nat → Int32) :=
  let X1 := itN (f_X8_digs_l2) nS sv
  X1
abbrev q_X8_digs (D : va_G) (k : KK) (o : Nat) (r : Nat → Nat) (fr : Value) (I : Nat → Int32) (L : Nat → Int64) (ma : Nat) (mr : Nat → Nat) (MI : Nat → Int32) (sa : Nat) (sv : Nat → Int32) (nS : Nat) (A : Nat → Prop) : Array Value → State → Outcome → State → Prop := va_Qv (fun (u : (Nat → Int32)) => u = f_X8_digs sv nS) (bx D (fun u => [(o, eMM r (.ref ma) fr I L), (ma, eMI mr MI), (sa, aI k 37 u)]) A) A
abbrev rm_X8_digs : Room := { frames := 1, cells := 0, slots := 0, locals := 40 }
theorem xo_X8_digs : xok yX8_digs 1 := by unfold xok; decide +kernel
set_option maxHeartbeats 8000000 in
theorem m_X8_digs (l : Launch) (D : va_G) (k : KK) (sz : Nat) (o : Nat) (r : Nat → Nat) (fr : Value) (I : Nat → Int32) (L : Nat → Int64) (ma : Nat) (mr : Nat → Nat) (MI : Nat → Int32) (sa : Nat) (sv : Nat → Int32) (nS : Nat) (hmS : MI 8 = nI nS) (hS2 : 2 ≤ nS) (hS5 : nS ≤ 5) : Met l yX8_digs (ws_ yX8_digs cX8_digs 4 none) rm_X8_digs (pcx D k [.ref o, .ref sa] sz [(o, eMM r (.ref ma) fr I L), (ma, eMI mr MI), (sa, aI k 37 sv)] (fun _ => True)) (q_X8_digs D k o r fr I L ma mr MI sa sv nS (va_A [(o, eMM r (.ref ma) fr I L), (ma, eMI mr MI), (sa, aI k 37 sv)] sz)) 0 0 (va_A [(o, eMM r (.ref ma) fr I L), (ma, eMI mr MI), (sa, aI k 37 sv)] sz) := by
  refine Met.start (Qc := q_X8_digs D k o r fr I L ma mr MI sa sv nS) (by decide) (Nat.le_of_ble_eq_true rfl) ?_
  intro p e s m below meth c A hx hb hr hlocks hml hown hin hts hg hP hD hA hAn hS hY hsz ls hl
  have hown : s.vm.findClass RX8 = some m.cls := hown
  have hl : lv_has ls 4 [(0, .ref o), (1, .ref sa)] := hl
  refine lv_iconst (v := 0) hx hb dX8_digs_0 ci_0 ?_
  refine lv_istore_n (lv' := [(2, .int 0), (0, .ref o), (1, .ref sa)]) hx hb dX8_digs_1 rfl hl (Nat.le_of_ble_eq_true rfl) rfl (fun ls hl => ?_)
  have loop1 : ∀ (n1 i1 : Nat) (X1 : (Nat → Int32)) (H : Heap) (locs : List Loc) (ls : Array Slot), i1 + n1 = nS → X1 = itN (f_X8_digs_l2) i1 sv → va_P D vwCl [(o, eMM r (.ref ma) fr I L), (ma, eMI mr MI), (sa, aI k 37 X1)] H → va_D A [(o, eMM r (.ref ma) fr I L), (ma, eMI mr MI), (sa, aI k 37 X1)] → va_S A s.heap H locs → lv_has ls 4 [(2, .int (nI i1)), (0, .ref o), (1, .ref sa)] → W p l e rm_X8_digs s m ([.ref o, .ref sa] : List Value).toArray below meth c H locs 0 0 (MQ below (q_X8_digs D k o r fr I L ma mr MI sa sv nS A) ([.ref o, .ref sa] : List Value).toArray s 0 0 A) (F0 m 2 ls []) := by
    intro n1
    induction n1 with
    | zero =>
      intro i1 X1 H locs ls hn1 eX1 hP hD hS hl
      have hi1 : i1 = nS := by omega
      rw [hi1] at eX1
      refine lv_iload_n hx hb dX8_digs_2 rfl (lv_at hl 0 rfl) ?_
      refine lv_aload_n hx hb dX8_digs_3 rfl (lv_at hl 1 rfl) ?_
      refine va_get (D := D) (ci := 10) (v := .ref ma) (C := RX8) (T := TX8) (N := 37) hx hb hts in_X8 hown hg.1 hP 0 rfl rfl 3 (Nat.le_of_ble_eq_true rfl) (hts _ q1144) (fun _ h9 => h9) rfl dX8_digs_4 ?_
      refine va_getN (D := D) (ci := 11) (v := .int (MI 8)) (C := RX13) (T := TX13) (N := 18) hx hb hts in_X13 hown hg.1 hP 1 rfl rfl 8 (Nat.le_of_ble_eq_true rfl) (nwF_191 hg) (fun _ h9 => h9) rfl dX8_digs_7 ?_
      refine lv_icmp_ge (tgt := 73) hx hb dX8_digs_10 (by decide) (fun _ => ?_) (fun c => absurd (xle_t hmS rfl (by omega) (by omega)) c)
      exact xret_v hx hb hr hlocks (Nat.le_of_ble_eq_true rfl) (Nat.le_of_ble_eq_true rfl) hS.2.2 dX8_digs_73 (fun t ht => ⟨⟨X1, rfl, (by subst eX1; exact rfl), by rw [ht]; exact hP, hD⟩, hS.F ht⟩)
    | succ n1 ih1 =>
      intro i1 X1 H locs ls hn1 eX1 hP hD hS hl
      have hi1 : i1 < nS := by omega
      refine lv_iload_n hx hb dX8_digs_2 rfl (lv_at hl 0 rfl) ?_
      refine lv_aload_n hx hb dX8_digs_3 rfl (lv_at hl 1 rfl) ?_
      refine va_get (D := D) (ci := 10) (v := .ref ma) (C := RX8) (T := TX8) (N := 37) hx hb hts in_X8 hown hg.1 hP 0 rfl rfl 3 (Nat.le_of_ble_eq_true rfl) (hts _ q1144) (fun _ h9 => h9) rfl dX8_digs_4 ?_
      refine va_getN (D := D) (ci := 11) (v := .int (MI 8)) (C := RX13) (T := TX13) (N := 18) hx hb hts in_X13 hown hg.1 hP 1 rfl rfl 8 (Nat.le_of_ble_eq_true rfl) (nwF_191 hg) (fun _ h9 => h9) rfl dX8_digs_7 ?_
      refine lv_icmp_ge (tgt := 73) hx hb dX8_digs_10 (by decide) (fun c => absurd c (xle_f hmS rfl (by omega) (by omega))) (fun _ => ?_)
      refine lv_aload_n hx hb dX8_digs_13 rfl (lv_at hl 2 rfl) ?_
      refine lv_iconst (v := 0) hx hb dX8_digs_14 ci_0 ?_
      refine lv_iload_n hx hb dX8_digs_15 rfl (lv_at hl 0 rfl) ?_
      refine lv_iadd hx hb dX8_digs_16 ?_
      refine xa_iald hx hb hg hP 2 rfl (xnadd xl_0 rfl) (by first | omega | exact Nat.lt_of_lt_of_le (Nat.mod_lt _ (by omega)) (by omega)) (by omega) dX8_digs_17 ?_
      refine lv_bipush (v := 10) hx hb dX8_digs_18 cb_10 ?_
      refine lv_idiv hx hb dX8_digs_20 (by decide) ?_
      refine lv_iconst (v := 1) hx hb dX8_digs_21 ci_1 ?_
      refine lv_iadd hx hb dX8_digs_22 ?_
      refine lv_aload_n hx hb dX8_digs_23 rfl (lv_at hl 2 rfl) ?_
      refine lv_iconst (v := 0) hx hb dX8_digs_24 ci_0 ?_
      refine lv_iload_n hx hb dX8_digs_25 rfl (lv_at hl 0 rfl) ?_
      refine lv_iadd hx hb dX8_digs_26 ?_
      refine xa_iald hx hb hg hP 2 rfl (xnadd xl_0 rfl) (by first | omega | exact Nat.lt_of_lt_of_le (Nat.mod_lt _ (by omega)) (by omega)) (by omega) dX8_digs_27 ?_
      have Jn4 : ∀ (v28 : (Int32)) (H : Heap) (locs : List Loc) (ls : Array Slot), v28 = f_X8_digs_j4 X1 i1 → va_P D vwCl [(o, eMM r (.ref ma) fr I L), (ma, eMI mr MI), (sa, aI k 37 X1)] H → va_D A [(o, eMM r (.ref ma) fr I L), (ma, eMI mr MI), (sa, aI k 37 X1)] → va_S A s.heap H locs → lv_has ls 4 [(2, .int (nI i1)), (0, .ref o), (1, .ref sa)] → W p l e rm_X8_digs s m ([.ref o, .ref sa] : List Value).toArray below meth c H locs 0 0 (MQ below (q_X8_digs D k o r fr I L ma mr MI sa sv nS A) ([.ref o, .ref sa] : List Value).toArray s 0 0 A) (F0 m 49 ls [.int v28]) := by
        intro v28 H locs ls ev28 hP hD hS hl
        refine lv_istore_n (lv' := [(3, .int v28), (2, .int (nI i1)), (0, .ref o), (1, .ref sa)]) hx hb dX8_digs_49 rfl hl (Nat.le_of_ble_eq_true rfl) rfl (fun ls hl => ?_)
        refine lv_aload_n hx hb dX8_digs_50 rfl (lv_at hl 3 rfl) ?_
        refine lv_iconst (v := 0) hx hb dX8_digs_51 ci_0 ?_
        refine lv_iload_n hx hb dX8_digs_52 rfl (lv_at hl 1 rfl) ?_
        refine lv_iadd hx hb dX8_digs_53 ?_
        refine lv_dup2_11 hx hb dX8_digs_54 rfl rfl ?_
        refine xa_iald hx hb hg hP 2 rfl (xnadd xl_0 rfl) (by first | omega | exact Nat.lt_of_lt_of_le (Nat.mod_lt _ (by omega)) (by omega)) (by omega) dX8_digs_55 ?_
        refine lv_iload_n hx hb dX8_digs_56 rfl (lv_at hl 0 rfl) ?_
        refine lv_isub hx hb dX8_digs_57 ?_
        refine lv_topi (fun x29 ex29 => ?_)
        refine xa_iast hx hb hg hP hD hS 2 rfl (xnadd xl_0 rfl) (by omega) (by omega) dX8_digs_58 (fun f30 H locs ef30 hP hD hS => ?_)
        replace hP : va_P D vwCl [(o, eMM r (.ref ma) fr I L), (ma, eMI mr MI), (sa, aI k 37 f30)] H := hP
        replace hD : va_D A [(o, eMM r (.ref ma) fr I L), (ma, eMI mr MI), (sa, aI k 37 f30)] := hD
        refine lv_aload_n hx hb dX8_digs_59 rfl (lv_at hl 3 rfl) ?_
        refine lv_bipush (v := 21) hx hb dX8_digs_60 cb_21 ?_
        refine lv_dup2_11 hx hb dX8_digs_62 rfl rfl ?_
        refine xa_iald hx hb hg hP 2 rfl xl_21 (by first | omega | exact Nat.lt_of_lt_of_le (Nat.mod_lt _ (by omega)) (by omega)) (by omega) dX8_digs_63 ?_
        refine lv_iload_n hx hb dX8_digs_64 rfl (lv_at hl 0 rfl) ?_
        refine lv_iadd hx hb dX8_digs_65 ?_
        refine lv_topi (fun x31 ex31 => ?_)
        refine xa_iast hx hb hg hP hD hS 2 rfl xl_21 (by omega) (by omega) dX8_digs_66 (fun f32 H locs ef32 hP hD hS => ?_)
        replace hP : va_P D vwCl [(o, eMM r (.ref ma) fr I L), (ma, eMI mr MI), (sa, aI k 37 f32)] H := hP
        replace hD : va_D A [(o, eMM r (.ref ma) fr I L), (ma, eMI mr MI), (sa, aI k 37 f32)] := hD
        refine lv_iinc (v := (nI (i1 + 1))) (lv' := [(2, .int (nI (i1 + 1))), (3, .int v28), (0, .ref o), (1, .ref sa)]) hx hb dX8_digs_67 hl (k := 1) rfl (xinc1 _) (Nat.le_of_ble_eq_true rfl) rfl (fun ls hl => ?_)
        refine lv_goto (tgt := 2) hx hb dX8_digs_70 (by decide) ?_
        exact ih1 (i1 + 1) f32 _ _ _ (by omega) (Eq.trans (by subst ef32; subst ex31; subst ef30; subst ex29; subst ev28; exact rfl) (congrArg (f_X8_digs_l2 i1) eX1)) hP hD hS (lv_sub hl [0, 2, 3] rfl)
      refine lv_icmp_le (tgt := 39) hx hb dX8_digs_28 (by decide) (fun c33 => ?_) (fun c33 => ?_)
      · refine lv_aload_n hx hb dX8_digs_39 rfl (lv_at hl 2 rfl) ?_
        refine lv_iconst (v := 0) hx hb dX8_digs_40 ci_0 ?_
        refine lv_iload_n hx hb dX8_digs_41 rfl (lv_at hl 0 rfl) ?_
        refine lv_iadd hx hb dX8_digs_42 ?_
        refine xa_iald hx hb hg hP 2 rfl (xnadd xl_0 rfl) (by first | omega | exact Nat.lt_of_lt_of_le (Nat.mod_lt _ (by omega)) (by omega)) (by omega) dX8_digs_43 ?_
        refine lv_bipush (v := 10) hx hb dX8_digs_44 cb_10 ?_
        refine lv_idiv hx hb dX8_digs_46 (by decide) ?_
        refine lv_iconst (v := 1) hx hb dX8_digs_47 ci_1 ?_
        refine lv_iadd hx hb dX8_digs_48 ?_
        exact Jn4 (((X1 (0 + i1)) / 10) + 1) _ _ _ (by exact Eq.symm (Eq.trans (if_pos c33) (rfl))) hP hD hS (lv_sub hl [0, 1, 2] rfl)
      · refine lv_aload_n hx hb dX8_digs_31 rfl (lv_at hl 2 rfl) ?_
        refine lv_iconst (v := 0) hx hb dX8_digs_32 ci_0 ?_
        refine lv_iload_n hx hb dX8_digs_33 rfl (lv_at hl 0 rfl) ?_
        refine lv_iadd hx hb dX8_digs_34 ?_
        refine xa_iald hx hb hg hP 2 rfl (xnadd xl_0 rfl) (by first | omega | exact Nat.lt_of_lt_of_le (Nat.mod_lt _ (by omega)) (by omega)) (by omega) dX8_digs_35 ?_
        refine lv_goto (tgt := 49) hx hb dX8_digs_36 (by decide) ?_
        exact Jn4 (X1 (0 + i1)) _ _ _ (by exact Eq.symm (Eq.trans (if_neg c33) (rfl))) hP hD hS (lv_sub hl [0, 1, 2] rfl)
  exact loop1 nS 0 sv _ _ _ (by omega) rfl hP hD hS (by have h := (lv_sub hl [0, 1, 2] rfl); exact h)

def f_X8_effectOf_j2 (x1 : Int32) : (Int32) :=
  if 0 ≤ x1 then
    x1
  else
    (-x1)
def f_X8_effectOf_j1 (MI : Nat → Int32) (li : Int32) (x2 : Int32) : (Int32) :=
  if x2 ≤ ((MI 4) - li) then
    ((MI 4) - li)
  else
    x2
def f_X8_effectOf (MI : Nat → Int32) (mhd : Nat → Int32) (fu : Int32) (li : Int32) (ore : Nat) : Int32 :=
  let x1 := (((100 * fu) / (MI 0)) - 50)
  let x2 := ((MI 4) / 2)
  let v5 := f_X8_effectOf_j1 MI li x2
  let v8 := f_X8_effectOf_j2 x1
  let x9 := (((100 - v8) * v5) / (MI 4))
  ((10 * x9) / (9 + (mhd ore)))
abbrev q_X8_effectOf (D : va_G) (k : KK) (o : Nat) (r : Nat → Nat) (fr : Value) (I : Nat → Int32) (L : Nat → Int64) (ma : Nat) (mr : Nat → Nat) (MI : Nat → Int32) (mhd : Nat → Int32) (fu : Int32) (li : Int32) (oi : Int32) (ore : Nat) (A : Nat → Prop) : Array Value → State → Outcome → State → Prop := va_Qi (fun (r_ : Int32) (u : Int32) => r_ = u ∧ u = f_X8_effectOf MI mhd fu li ore) (bx D (fun u => [(o, eMM r (.ref ma) fr I L), (ma, eMI mr MI), ((mr 14), aI k 4 mhd)]) A) A
abbrev rm_X8_effectOf : Room := { frames := 1, cells := 0, slots := 0, locals := 40 }
theorem xo_X8_effectOf : xok yX8_effectOf 3 := by unfold xok; decide +kernel
set_option maxHeartbeats 8000000 in
theorem m_X8_effectOf (l : Launch) (D : va_G) (k : KK) (sz : Nat) (o : Nat) (r : Nat → Nat) (fr : Value) (I : Nat → Int32) (L : Nat → Int64) (ma : Nat) (mr : Nat → Nat) (MI : Nat → Int32) (mhd : Nat → Int32) (fu : Int32) (li : Int32) (oi : Int32) (ore : Nat) (hore : ore < 4) (hoi : oi = nI ore) (hroom : ¬ MI 0 = 0) (hlife : ¬ MI 4 = 0) (hhard : ¬ 9 + mhd ore = 0) : Met l yX8_effectOf (ws_ yX8_effectOf cX8_effectOf 8 (some .int)) rm_X8_effectOf (pcx D k [.ref o, .int fu, .int li, .int oi] sz [(o, eMM r (.ref ma) fr I L), (ma, eMI mr MI), ((mr 14), aI k 4 mhd)] (fun _ => True)) (q_X8_effectOf D k o r fr I L ma mr MI mhd fu li oi ore (va_A [(o, eMM r (.ref ma) fr I L), (ma, eMI mr MI), ((mr 14), aI k 4 mhd)] sz)) 0 0 (va_A [(o, eMM r (.ref ma) fr I L), (ma, eMI mr MI), ((mr 14), aI k 4 mhd)] sz) := by
  refine Met.start (Qc := q_X8_effectOf D k o r fr I L ma mr MI mhd fu li oi ore) (by decide) (Nat.le_of_ble_eq_true rfl) ?_
  intro p e s m below meth c A hx hb hr hlocks hml hown hin hts hg hP hD hA hAn hS hY hsz ls hl
  have hown : s.vm.findClass RX8 = some m.cls := hown
  have hl : lv_has ls 8 [(0, .ref o), (1, .int fu), (2, .int li), (3, .int oi)] := hl
  refine lv_bipush (v := 100) hx hb dX8_effectOf_0 cb_100 ?_
  refine lv_iload_n hx hb dX8_effectOf_2 rfl (lv_at hl 1 rfl) ?_
  refine lv_imul hx hb dX8_effectOf_3 ?_
  refine lv_aload_n hx hb dX8_effectOf_4 rfl (lv_at hl 0 rfl) ?_
  refine va_get (D := D) (ci := 10) (v := .ref ma) (C := RX8) (T := TX8) (N := 37) hx hb hts in_X8 hown hg.1 hP 0 rfl rfl 3 (Nat.le_of_ble_eq_true rfl) (hts _ q1144) (fun _ h9 => h9) rfl dX8_effectOf_5 ?_
  refine va_getN (D := D) (ci := 11) (v := .int (MI 0)) (C := RX13) (T := TX13) (N := 18) hx hb hts in_X13 hown hg.1 hP 1 rfl rfl 0 (Nat.le_of_ble_eq_true rfl) (nwF_176 hg) (fun _ h9 => h9) rfl dX8_effectOf_8 ?_
  refine lv_idiv hx hb dX8_effectOf_11 (by first | assumption | omega) ?_
  refine lv_bipush (v := 50) hx hb dX8_effectOf_12 cb_50 ?_
  refine lv_isub hx hb dX8_effectOf_14 ?_
  refine lv_topi (fun x1 ex1 => ?_)
  refine lv_istore (lv' := [(4, .int x1), (0, .ref o), (1, .int fu), (2, .int li), (3, .int oi)]) hx hb dX8_effectOf_15 hl (Nat.le_of_ble_eq_true rfl) rfl (fun ls hl => ?_)
  refine lv_aload_n hx hb dX8_effectOf_17 rfl (lv_at hl 1 rfl) ?_
  refine va_get (D := D) (ci := 10) (v := .ref ma) (C := RX8) (T := TX8) (N := 37) hx hb hts in_X8 hown hg.1 hP 0 rfl rfl 3 (Nat.le_of_ble_eq_true rfl) (hts _ q1144) (fun _ h9 => h9) rfl dX8_effectOf_18 ?_
  refine va_getN (D := D) (ci := 11) (v := .int (MI 4)) (C := RX13) (T := TX13) (N := 18) hx hb hts in_X13 hown hg.1 hP 1 rfl rfl 4 (Nat.le_of_ble_eq_true rfl) (nwF_183 hg) (fun _ h9 => h9) rfl dX8_effectOf_21 ?_
  refine lv_iconst (v := 2) hx hb dX8_effectOf_24 ci_2 ?_
  refine lv_idiv hx hb dX8_effectOf_25 (by decide) ?_
  refine lv_topi (fun x2 ex2 => ?_)
  refine lv_istore (lv' := [(5, .int x2), (4, .int x1), (0, .ref o), (1, .int fu), (2, .int li), (3, .int oi)]) hx hb dX8_effectOf_26 hl (Nat.le_of_ble_eq_true rfl) rfl (fun ls hl => ?_)
  refine lv_aload_n hx hb dX8_effectOf_28 rfl (lv_at hl 2 rfl) ?_
  refine va_get (D := D) (ci := 10) (v := .ref ma) (C := RX8) (T := TX8) (N := 37) hx hb hts in_X8 hown hg.1 hP 0 rfl rfl 3 (Nat.le_of_ble_eq_true rfl) (hts _ q1144) (fun _ h9 => h9) rfl dX8_effectOf_29 ?_
  refine va_getN (D := D) (ci := 11) (v := .int (MI 4)) (C := RX13) (T := TX13) (N := 18) hx hb hts in_X13 hown hg.1 hP 1 rfl rfl 4 (Nat.le_of_ble_eq_true rfl) (nwF_183 hg) (fun _ h9 => h9) rfl dX8_effectOf_32 ?_
  refine lv_iload_n hx hb dX8_effectOf_35 rfl (lv_at hl 4 rfl) ?_
  refine lv_isub hx hb dX8_effectOf_36 ?_
  refine lv_iload hx hb dX8_effectOf_37 (lv_at hl 0 rfl) ?_
  have Jn1 : ∀ (v5 : (Int32)) (H : Heap) (locs : List Loc) (ls : Array Slot), v5 = f_X8_effectOf_j1 MI li x2 → va_P D vwCl [(o, eMM r (.ref ma) fr I L), (ma, eMI mr MI), ((mr 14), aI k 4 mhd)] H → va_D A [(o, eMM r (.ref ma) fr I L), (ma, eMI mr MI), ((mr 14), aI k 4 mhd)] → va_S A s.heap H locs → lv_has ls 8 [(5, .int x2), (4, .int x1), (0, .ref o), (1, .int fu), (2, .int li), (3, .int oi)] → W p l e rm_X8_effectOf s m ([.ref o, .int fu, .int li, .int oi] : List Value).toArray below meth c H locs 0 0 (MQ below (q_X8_effectOf D k o r fr I L ma mr MI mhd fu li oi ore A) ([.ref o, .int fu, .int li, .int oi] : List Value).toArray s 0 0 A) (F0 m 56 ls [.int v5]) := by
    intro v5 H locs ls ev5 hP hD hS hl
    refine lv_istore (lv' := [(6, .int v5), (5, .int x2), (4, .int x1), (0, .ref o), (1, .int fu), (2, .int li), (3, .int oi)]) hx hb dX8_effectOf_56 hl (Nat.le_of_ble_eq_true rfl) rfl (fun ls hl => ?_)
    refine lv_bipush (v := 100) hx hb dX8_effectOf_58 cb_100 ?_
    refine lv_iload hx hb dX8_effectOf_60 (lv_at hl 2 rfl) ?_
    have Jn2 : ∀ (v8 : (Int32)) (H : Heap) (locs : List Loc) (ls : Array Slot), v8 = f_X8_effectOf_j2 x1 → va_P D vwCl [(o, eMM r (.ref ma) fr I L), (ma, eMI mr MI), ((mr 14), aI k 4 mhd)] H → va_D A [(o, eMM r (.ref ma) fr I L), (ma, eMI mr MI), ((mr 14), aI k 4 mhd)] → va_S A s.heap H locs → lv_has ls 8 [(6, .int v5), (5, .int x2), (4, .int x1), (0, .ref o), (1, .int fu), (2, .int li), (3, .int oi)] → W p l e rm_X8_effectOf s m ([.ref o, .int fu, .int li, .int oi] : List Value).toArray below meth c H locs 0 0 (MQ below (q_X8_effectOf D k o r fr I L ma mr MI mhd fu li oi ore A) ([.ref o, .int fu, .int li, .int oi] : List Value).toArray s 0 0 A) (F0 m 73 ls [.int v8, .int 100]) := by
      intro v8 H locs ls ev8 hP hD hS hl
      refine lv_isub hx hb dX8_effectOf_73 ?_
      refine lv_iload hx hb dX8_effectOf_74 (lv_at hl 0 rfl) ?_
      refine lv_imul hx hb dX8_effectOf_76 ?_
      refine lv_aload_n hx hb dX8_effectOf_77 rfl (lv_at hl 3 rfl) ?_
      refine va_get (D := D) (ci := 10) (v := .ref ma) (C := RX8) (T := TX8) (N := 37) hx hb hts in_X8 hown hg.1 hP 0 rfl rfl 3 (Nat.le_of_ble_eq_true rfl) (hts _ q1144) (fun _ h9 => h9) rfl dX8_effectOf_78 ?_
      refine va_getN (D := D) (ci := 11) (v := .int (MI 4)) (C := RX13) (T := TX13) (N := 18) hx hb hts in_X13 hown hg.1 hP 1 rfl rfl 4 (Nat.le_of_ble_eq_true rfl) (nwF_183 hg) (fun _ h9 => h9) rfl dX8_effectOf_81 ?_
      refine lv_idiv hx hb dX8_effectOf_84 (by first | assumption | omega) ?_
      refine lv_topi (fun x9 ex9 => ?_)
      refine lv_istore (lv' := [(7, .int x9), (6, .int v5), (5, .int x2), (4, .int x1), (0, .ref o), (1, .int fu), (2, .int li), (3, .int oi)]) hx hb dX8_effectOf_85 hl (Nat.le_of_ble_eq_true rfl) rfl (fun ls hl => ?_)
      refine lv_bipush (v := 10) hx hb dX8_effectOf_87 cb_10 ?_
      refine lv_iload hx hb dX8_effectOf_89 (lv_at hl 0 rfl) ?_
      refine lv_imul hx hb dX8_effectOf_91 ?_
      refine lv_bipush (v := 9) hx hb dX8_effectOf_92 cb_9 ?_
      refine lv_aload_n hx hb dX8_effectOf_94 rfl (lv_at hl 4 rfl) ?_
      refine va_get (D := D) (ci := 10) (v := .ref ma) (C := RX8) (T := TX8) (N := 37) hx hb hts in_X8 hown hg.1 hP 0 rfl rfl 3 (Nat.le_of_ble_eq_true rfl) (hts _ q1144) (fun _ h9 => h9) rfl dX8_effectOf_95 ?_
      refine va_getN (D := D) (ci := 11) (v := .ref (mr 14)) (C := RX13) (T := TX13) (N := 18) hx hb hts in_X13 hown hg.1 hP 1 rfl rfl 14 (Nat.le_of_ble_eq_true rfl) (nwF_276 hg) (fun _ h9 => h9) rfl dX8_effectOf_98 ?_
      refine lv_iload_n hx hb dX8_effectOf_101 rfl (lv_at hl 7 rfl) ?_
      refine xa_iald hx hb hg hP 2 rfl hoi (by first | omega | exact Nat.lt_of_lt_of_le (Nat.mod_lt _ (by omega)) (by omega)) (by omega) dX8_effectOf_102 ?_
      refine lv_iadd hx hb dX8_effectOf_103 ?_
      refine lv_idiv hx hb dX8_effectOf_104 (by first | assumption | omega) ?_
      exact xret_i hx hb hr hlocks (Nat.le_of_ble_eq_true rfl) (Nat.le_of_ble_eq_true rfl) hS.2.2 dX8_effectOf_105 (fun t ht => ⟨⟨((10 * x9) / (9 + (mhd ore))), ((10 * x9) / (9 + (mhd ore))), rfl, ⟨rfl, (by subst ex9; subst ev8; subst ev5; subst ex2; subst ex1; exact rfl)⟩, by rw [ht]; exact hP, hD⟩, hS.F ht⟩)
    refine lv_if_ge (tgt := 71) hx hb dX8_effectOf_62 (by decide) (fun c10 => ?_) (fun c10 => ?_)
    · refine lv_iload hx hb dX8_effectOf_71 (lv_at hl 2 rfl) ?_
      exact Jn2 x1 _ _ _ (by exact Eq.symm (Eq.trans (if_pos c10) (rfl))) hP hD hS (lv_sub hl [0, 1, 2, 3, 4, 5, 6] rfl)
    · refine lv_iload hx hb dX8_effectOf_65 (lv_at hl 2 rfl) ?_
      refine lv_ineg hx hb dX8_effectOf_67 ?_
      refine lv_goto (tgt := 73) hx hb dX8_effectOf_68 (by decide) ?_
      exact Jn2 (-x1) _ _ _ (by exact Eq.symm (Eq.trans (if_neg c10) (rfl))) hP hD hS (lv_sub hl [0, 1, 2, 3, 4, 5, 6] rfl)
  refine lv_icmp_ge (tgt := 47) hx hb dX8_effectOf_39 (by decide) (fun c11 => ?_) (fun c11 => ?_)
  · refine lv_aload_n hx hb dX8_effectOf_47 rfl (lv_at hl 2 rfl) ?_
    refine va_get (D := D) (ci := 10) (v := .ref ma) (C := RX8) (T := TX8) (N := 37) hx hb hts in_X8 hown hg.1 hP 0 rfl rfl 3 (Nat.le_of_ble_eq_true rfl) (hts _ q1144) (fun _ h9 => h9) rfl dX8_effectOf_48 ?_
    refine va_getN (D := D) (ci := 11) (v := .int (MI 4)) (C := RX13) (T := TX13) (N := 18) hx hb hts in_X13 hown hg.1 hP 1 rfl rfl 4 (Nat.le_of_ble_eq_true rfl) (nwF_183 hg) (fun _ h9 => h9) rfl dX8_effectOf_51 ?_
    refine lv_iload_n hx hb dX8_effectOf_54 rfl (lv_at hl 4 rfl) ?_
    refine lv_isub hx hb dX8_effectOf_55 ?_
    exact Jn1 ((MI 4) - li) _ _ _ (by exact Eq.symm (Eq.trans (if_pos c11) (rfl))) hP hD hS (lv_sub hl [0, 1, 2, 3, 4, 5] rfl)
  · refine lv_iload hx hb dX8_effectOf_42 (lv_at hl 0 rfl) ?_
    refine lv_goto (tgt := 56) hx hb dX8_effectOf_44 (by decide) ?_
    exact Jn1 x2 _ _ _ (by exact Eq.symm (Eq.trans (if_neg c11) (rfl))) hP hD hS (lv_sub hl [0, 1, 2, 3, 4, 5] rfl)

def f_X8_passes_j1 (MI : Nat → Int32) (te : Int32) : (Int32) :=
  if (te * (MI 3)) ≤ 100 then
    (te * (MI 3))
  else
    100
def f_X8_passes (MI : Nat → Int32) (si : Int32) (te : Int32) : Int32 :=
  if si < (MI 2) then
    let v4 := f_X8_passes_j1 MI te
    v4
  else
    100
abbrev q_X8_passes (D : va_G) (k : KK) (o : Nat) (r : Nat → Nat) (fr : Value) (I : Nat → Int32) (L : Nat → Int64) (ma : Nat) (mr : Nat → Nat) (MI : Nat → Int32) (si : Int32) (te : Int32) (A : Nat → Prop) : Array Value → State → Outcome → State → Prop := va_Qi (fun (r_ : Int32) (u : Int32) => r_ = u ∧ u = f_X8_passes MI si te) (bx D (fun u => [(o, eMM r (.ref ma) fr I L), (ma, eMI mr MI)]) A) A
abbrev rm_X8_passes : Room := { frames := 1, cells := 0, slots := 0, locals := 40 }
theorem xo_X8_passes : xok yX8_passes 2 := by unfold xok; decide +kernel
set_option maxHeartbeats 8000000 in
theorem m_X8_passes (l : Launch) (D : va_G) (k : KK) (sz : Nat) (o : Nat) (r : Nat → Nat) (fr : Value) (I : Nat → Int32) (L : Nat → Int64) (ma : Nat) (mr : Nat → Nat) (MI : Nat → Int32) (si : Int32) (te : Int32)  : Met l yX8_passes (ws_ yX8_passes cX8_passes 3 (some .int)) rm_X8_passes (pcx D k [.ref o, .int si, .int te] sz [(o, eMM r (.ref ma) fr I L), (ma, eMI mr MI)] (fun _ => True)) (q_X8_passes D k o r fr I L ma mr MI si te (va_A [(o, eMM r (.ref ma) fr I L), (ma, eMI mr MI)] sz)) 0 0 (va_A [(o, eMM r (.ref ma) fr I L), (ma, eMI mr MI)] sz) := by
  refine Met.start (Qc := q_X8_passes D k o r fr I L ma mr MI si te) (by decide) (Nat.le_of_ble_eq_true rfl) ?_
  intro p e s m below meth c A hx hb hr hlocks hml hown hin hts hg hP hD hA hAn hS hY hsz ls hl
  have hown : s.vm.findClass RX8 = some m.cls := hown
  have hl : lv_has ls 3 [(0, .ref o), (1, .int si), (2, .int te)] := hl
  refine lv_iload_n hx hb dX8_passes_0 rfl (lv_at hl 1 rfl) ?_
  refine lv_aload_n hx hb dX8_passes_1 rfl (lv_at hl 0 rfl) ?_
  refine va_get (D := D) (ci := 10) (v := .ref ma) (C := RX8) (T := TX8) (N := 37) hx hb hts in_X8 hown hg.1 hP 0 rfl rfl 3 (Nat.le_of_ble_eq_true rfl) (hts _ q1144) (fun _ h9 => h9) rfl dX8_passes_2 ?_
  refine va_getN (D := D) (ci := 11) (v := .int (MI 2)) (C := RX13) (T := TX13) (N := 18) hx hb hts in_X13 hown hg.1 hP 1 rfl rfl 2 (Nat.le_of_ble_eq_true rfl) (nwF_181 hg) (fun _ h9 => h9) rfl dX8_passes_5 ?_
  refine lv_icmp_lt (tgt := 14) hx hb dX8_passes_8 (by decide) (fun c1 => ?_) (fun c1 => ?_)
  · refine lv_iload_n hx hb dX8_passes_14 rfl (lv_at hl 2 rfl) ?_
    refine lv_aload_n hx hb dX8_passes_15 rfl (lv_at hl 0 rfl) ?_
    refine va_get (D := D) (ci := 10) (v := .ref ma) (C := RX8) (T := TX8) (N := 37) hx hb hts in_X8 hown hg.1 hP 0 rfl rfl 3 (Nat.le_of_ble_eq_true rfl) (hts _ q1144) (fun _ h9 => h9) rfl dX8_passes_16 ?_
    refine va_getN (D := D) (ci := 11) (v := .int (MI 3)) (C := RX13) (T := TX13) (N := 18) hx hb hts in_X13 hown hg.1 hP 1 rfl rfl 3 (Nat.le_of_ble_eq_true rfl) (nwF_248 hg) (fun _ h9 => h9) rfl dX8_passes_19 ?_
    refine lv_imul hx hb dX8_passes_22 ?_
    refine lv_bipush (v := 100) hx hb dX8_passes_23 cb_100 ?_
    have Jn1 : ∀ (v4 : (Int32)) (H : Heap) (locs : List Loc) (ls : Array Slot), v4 = f_X8_passes_j1 MI te → va_P D vwCl [(o, eMM r (.ref ma) fr I L), (ma, eMI mr MI)] H → va_D A [(o, eMM r (.ref ma) fr I L), (ma, eMI mr MI)] → va_S A s.heap H locs → lv_has ls 3 [(0, .ref o), (1, .int si), (2, .int te)] → W p l e rm_X8_passes s m ([.ref o, .int si, .int te] : List Value).toArray below meth c H locs 0 0 (MQ below (q_X8_passes D k o r fr I L ma mr MI si te A) ([.ref o, .int si, .int te] : List Value).toArray s 0 0 A) (F0 m 42 ls [.int v4]) := by
      intro v4 H locs ls ev4 hP hD hS hl
      exact xret_i hx hb hr hlocks (Nat.le_of_ble_eq_true rfl) (Nat.le_of_ble_eq_true rfl) hS.2.2 dX8_passes_42 (fun t ht => ⟨⟨v4, v4, rfl, ⟨rfl, (by subst ev4; exact Eq.symm (Eq.trans (if_pos c1) (rfl)))⟩, by rw [ht]; exact hP, hD⟩, hS.F ht⟩)
    refine lv_icmp_le (tgt := 33) hx hb dX8_passes_25 (by decide) (fun c5 => ?_) (fun c5 => ?_)
    · refine lv_iload_n hx hb dX8_passes_33 rfl (lv_at hl 2 rfl) ?_
      refine lv_aload_n hx hb dX8_passes_34 rfl (lv_at hl 0 rfl) ?_
      refine va_get (D := D) (ci := 10) (v := .ref ma) (C := RX8) (T := TX8) (N := 37) hx hb hts in_X8 hown hg.1 hP 0 rfl rfl 3 (Nat.le_of_ble_eq_true rfl) (hts _ q1144) (fun _ h9 => h9) rfl dX8_passes_35 ?_
      refine va_getN (D := D) (ci := 11) (v := .int (MI 3)) (C := RX13) (T := TX13) (N := 18) hx hb hts in_X13 hown hg.1 hP 1 rfl rfl 3 (Nat.le_of_ble_eq_true rfl) (nwF_248 hg) (fun _ h9 => h9) rfl dX8_passes_38 ?_
      refine lv_imul hx hb dX8_passes_41 ?_
      exact Jn1 (te * (MI 3)) _ _ _ (by exact Eq.symm (Eq.trans (if_pos c5) (rfl))) hP hD hS (lv_sub hl [0, 1, 2] rfl)
    · refine lv_bipush (v := 100) hx hb dX8_passes_28 cb_100 ?_
      refine lv_goto (tgt := 42) hx hb dX8_passes_30 (by decide) ?_
      exact Jn1 100 _ _ _ (by exact Eq.symm (Eq.trans (if_neg c5) (rfl))) hP hD hS (lv_sub hl [0, 1, 2] rfl)
  · refine lv_bipush (v := 100) hx hb dX8_passes_11 cb_100 ?_
    exact xret_i hx hb hr hlocks (Nat.le_of_ble_eq_true rfl) (Nat.le_of_ble_eq_true rfl) hS.2.2 dX8_passes_13 (fun t ht => ⟨⟨100, 100, rfl, ⟨rfl, (by exact Eq.symm (Eq.trans (if_neg c1) (rfl)))⟩, by rw [ht]; exact hP, hD⟩, hS.F ht⟩)

def f_X8_grinds_l153 (MI : Nat → Int32) (i46 : Nat) (X46 : (Nat → Int32)) : (Nat → Int32) :=
  let x77 := (((X46 (0 + i46)) * (20 + (10 * (X46 35)))) / 100)
  let u78 := f_X8_passes MI (nI i46) (X46 25)
  let x79 := ((x77 * u78) / 100)
  let x80 := ((X46 (0 + i46)) - x77)
  let f81 := upd X46 (0 + i46) x80
  let f82 := upd f81 (10 + i46) x79
  let x83 := ((f82 (15 + i46)) + x79)
  let f84 := upd f82 (15 + i46) x83
  let x85 := (x77 - x79)
  let f86 := upd f84 (5 + i46) x85
  f86
def f_X8_grinds_j4 (MI : Nat → Int32) (n6 : Nat) : (Int32) :=
  if (MI 8) ≤ ((nI n6) + 2) then
    ((nI n6) + 1)
  else
    ((nI n6) + 2)
def f_X8_grinds_l46 (MI : Nat → Int32) (mbr : Nat → Int32) (mnx : Nat → Int32) (nS : Nat) (n6 : Nat) (X6 : (Nat → Int32)) : (Nat → Int32) :=
  let x87 := ((((X6 (0 + n6)) * (mbr n6)) * (X6 29)) / 10000)
  let x88 := ((x87 * (mnx n6)) / 100)
  let x89 := ((X6 (0 + n6)) - x87)
  let f90 := upd X6 (0 + n6) x89
  let x91 := ((f90 ((0 + n6) + 1)) + x88)
  let f92 := upd f90 ((0 + n6) + 1) x91
  let v95 := f_X8_grinds_j4 MI n6
  let j96 := if n6 + 2 < nS then n6 + 2 else n6 + 1
  let x97 := ((f92 (0 + j96)) + (x87 - x88))
  let f98 := upd f92 (0 + j96) x97
  f98
def f_X8_grinds (MI : Nat → Int32) (mbr : Nat → Int32) (mnx : Nat → Int32) (mhd : Nat → Int32) (sv : Nat → Int32) (ore : Nat) (nS : Nat) : (Nat → Int32) :=
  let u1 := f_X8_effectOf MI mhd (sv 28) (sv 24) ore
  let f2 := upd sv 29 u1
  let x3 := (((f2 28) * (f2 29)) / 100)
  let f4 := upd f2 30 x3
  let x5 := ((MI 8) - 2)
  let X6 := itD (f_X8_grinds_l46 MI mbr mnx nS) (nS - 1) f4
  let X46 := itN (f_X8_grinds_l153 MI) nS X6
  X46
abbrev q_X8_grinds (D : va_G) (k : KK) (o : Nat) (r : Nat → Nat) (fr : Value) (I : Nat → Int32) (L : Nat → Int64) (ma : Nat) (mr : Nat → Nat) (MI : Nat → Int32) (mbr : Nat → Int32) (mnx : Nat → Int32) (mhd : Nat → Int32) (sa : Nat) (sv : Nat → Int32) (ore : Nat) (nS : Nat) (A : Nat → Prop) : Array Value → State → Outcome → State → Prop := va_Qv (fun (u : (Nat → Int32)) => u = f_X8_grinds MI mbr mnx mhd sv ore nS) (bx D (fun u => [(o, eMM r (.ref ma) fr I L), (ma, eMI mr MI), ((mr 12), aI k 5 mbr), ((mr 13), aI k 5 mnx), ((mr 14), aI k 4 mhd), (sa, aI k 37 u)]) A) A
abbrev rm_X8_grinds : Room := { frames := 2, cells := 0, slots := 0, locals := 80 }
theorem xo_X8_grinds : xok yX8_grinds 1 := by unfold xok; decide +kernel
set_option maxHeartbeats 8000000 in
theorem m_X8_grinds (l : Launch) (D : va_G) (k : KK) (sz : Nat) (o : Nat) (r : Nat → Nat) (fr : Value) (I : Nat → Int32) (L : Nat → Int64) (ma : Nat) (mr : Nat → Nat) (MI : Nat → Int32) (mbr : Nat → Int32) (mnx : Nat → Int32) (mhd : Nat → Int32) (sa : Nat) (sv : Nat → Int32) (ore : Nat) (nS : Nat) (hmS : MI 8 = nI nS) (hS2 : 2 ≤ nS) (hS5 : nS ≤ 5) (hore : ore < 4) (hso : sv 36 = nI ore) (hroom : ¬ MI 0 = 0) (hlife : ¬ MI 4 = 0) (hhard : ¬ 9 + mhd ore = 0) : Met l yX8_grinds (ws_ yX8_grinds cX8_grinds 5 none) rm_X8_grinds (pcx D k [.ref o, .ref sa] sz [(o, eMM r (.ref ma) fr I L), (ma, eMI mr MI), ((mr 12), aI k 5 mbr), ((mr 13), aI k 5 mnx), ((mr 14), aI k 4 mhd), (sa, aI k 37 sv)] (fun _ => True)) (q_X8_grinds D k o r fr I L ma mr MI mbr mnx mhd sa sv ore nS (va_A [(o, eMM r (.ref ma) fr I L), (ma, eMI mr MI), ((mr 12), aI k 5 mbr), ((mr 13), aI k 5 mnx), ((mr 14), aI k 4 mhd), (sa, aI k 37 sv)] sz)) 0 0 (va_A [(o, eMM r (.ref ma) fr I L), (ma, eMI mr MI), ((mr 12), aI k 5 mbr), ((mr 13), aI k 5 mnx), ((mr 14), aI k 4 mhd), (sa, aI k 37 sv)] sz) := by
  refine Met.start (Qc := q_X8_grinds D k o r fr I L ma mr MI mbr mnx mhd sa sv ore nS) (by decide) (Nat.le_of_ble_eq_true rfl) ?_
  intro p e s m below meth c A hx hb hr hlocks hml hown hin hts hg hP hD hA hAn hS hY hsz ls hl
  have hown : s.vm.findClass RX8 = some m.cls := hown
  have hl : lv_has ls 5 [(0, .ref o), (1, .ref sa)] := hl
  refine lv_aload_n hx hb dX8_grinds_0 rfl (lv_at hl 1 rfl) ?_
  refine lv_bipush (v := 29) hx hb dX8_grinds_1 cb_29 ?_
  refine lv_aload_n hx hb dX8_grinds_3 rfl (lv_at hl 0 rfl) ?_
  refine lv_aload_n hx hb dX8_grinds_4 rfl (lv_at hl 1 rfl) ?_
  refine lv_bipush (v := 28) hx hb dX8_grinds_5 cb_28 ?_
  refine xa_iald hx hb hg hP 5 rfl xl_28 (by first | omega | exact Nat.lt_of_lt_of_le (Nat.mod_lt _ (by omega)) (by omega)) (by omega) dX8_grinds_7 ?_
  refine lv_aload_n hx hb dX8_grinds_8 rfl (lv_at hl 1 rfl) ?_
  refine lv_bipush (v := 24) hx hb dX8_grinds_9 cb_24 ?_
  refine xa_iald hx hb hg hP 5 rfl xl_24 (by first | omega | exact Nat.lt_of_lt_of_le (Nat.mod_lt _ (by omega)) (by omega)) (by omega) dX8_grinds_11 ?_
  refine lv_aload_n hx hb dX8_grinds_12 rfl (lv_at hl 1 rfl) ?_
  refine lv_bipush (v := 36) hx hb dX8_grinds_13 cb_36 ?_
  refine xa_iald hx hb hg hP 5 rfl xl_36 (by first | omega | exact Nat.lt_of_lt_of_le (Nat.mod_lt _ (by omega)) (by omega)) (by omega) dX8_grinds_15 ?_
  refine xc_i (wc := [(o, eMM r (.ref ma) fr I L), (ma, eMI mr MI), ((mr 14), aI k 4 mhd)]) (wr := [((mr 12), aI k 5 mbr), ((mr 13), aI k 5 mnx), (sa, aI k 37 sv)]) hP hD hS hA [0, 1, 4] [2, 3, 5] rfl rfl rfl (by decide) (xrV ⟨hx, hb, hml, hown, hts⟩ hg (m_X8_effectOf l D k _ o r fr I L ma mr MI mhd (sv 28) (sv 24) (sv 36) ore hore (by first | assumption | omega) hroom hlife hhard) hP hD [0, 1, 4] rfl rfl trivial (ci := 10) (q0 := 0) rfl rfl rfl q1530 q1532 qs67 q93 q1533 xo_X8_effectOf ⟨rfl, rfl⟩ ⟨Nat.le_of_ble_eq_true rfl, Nat.le_of_ble_eq_true rfl⟩ hl.1 (Nat.le_of_ble_eq_true rfl) dX8_grinds_16 ⟨Nat.le_of_ble_eq_true rfl, Nat.le_of_ble_eq_true rfl⟩ rfl) (fun u1 r_ H locs hw hP hD hS hk => ?_)
  obtain ⟨rfl, eu1⟩ := hw
  replace hP : va_P D vwCl [(o, eMM r (.ref ma) fr I L), (ma, eMI mr MI), ((mr 12), aI k 5 mbr), ((mr 13), aI k 5 mnx), ((mr 14), aI k 4 mhd), (sa, aI k 37 sv)] H := hP.sub [3, 4, 0, 1, 5, 2] rfl
  replace hD : va_D A [(o, eMM r (.ref ma) fr I L), (ma, eMI mr MI), ((mr 12), aI k 5 mbr), ((mr 13), aI k 5 mnx), ((mr 14), aI k 4 mhd), (sa, aI k 37 sv)] := hD.sub [3, 4, 0, 1, 5, 2] (by decide) rfl
  refine xa_iast hx hb hg hP hD hS 5 rfl xl_29 (by omega) (by omega) dX8_grinds_19 (fun f2 H locs ef2 hP hD hS => ?_)
  replace hP : va_P D vwCl [(o, eMM r (.ref ma) fr I L), (ma, eMI mr MI), ((mr 12), aI k 5 mbr), ((mr 13), aI k 5 mnx), ((mr 14), aI k 4 mhd), (sa, aI k 37 f2)] H := hP
  replace hD : va_D A [(o, eMM r (.ref ma) fr I L), (ma, eMI mr MI), ((mr 12), aI k 5 mbr), ((mr 13), aI k 5 mnx), ((mr 14), aI k 4 mhd), (sa, aI k 37 f2)] := hD
  refine lv_aload_n hx hb dX8_grinds_20 rfl (lv_at hl 1 rfl) ?_
  refine lv_bipush (v := 30) hx hb dX8_grinds_21 cb_30 ?_
  refine lv_aload_n hx hb dX8_grinds_23 rfl (lv_at hl 1 rfl) ?_
  refine lv_bipush (v := 28) hx hb dX8_grinds_24 cb_28 ?_
  refine xa_iald hx hb hg hP 5 rfl xl_28 (by first | omega | exact Nat.lt_of_lt_of_le (Nat.mod_lt _ (by omega)) (by omega)) (by omega) dX8_grinds_26 ?_
  refine lv_aload_n hx hb dX8_grinds_27 rfl (lv_at hl 1 rfl) ?_
  refine lv_bipush (v := 29) hx hb dX8_grinds_28 cb_29 ?_
  refine xa_iald hx hb hg hP 5 rfl xl_29 (by first | omega | exact Nat.lt_of_lt_of_le (Nat.mod_lt _ (by omega)) (by omega)) (by omega) dX8_grinds_30 ?_
  refine lv_imul hx hb dX8_grinds_31 ?_
  refine lv_bipush (v := 100) hx hb dX8_grinds_32 cb_100 ?_
  refine lv_idiv hx hb dX8_grinds_34 (by decide) ?_
  refine lv_topi (fun x3 ex3 => ?_)
  refine xa_iast hx hb hg hP hD hS 5 rfl xl_30 (by omega) (by omega) dX8_grinds_35 (fun f4 H locs ef4 hP hD hS => ?_)
  replace hP : va_P D vwCl [(o, eMM r (.ref ma) fr I L), (ma, eMI mr MI), ((mr 12), aI k 5 mbr), ((mr 13), aI k 5 mnx), ((mr 14), aI k 4 mhd), (sa, aI k 37 f4)] H := hP
  replace hD : va_D A [(o, eMM r (.ref ma) fr I L), (ma, eMI mr MI), ((mr 12), aI k 5 mbr), ((mr 13), aI k 5 mnx), ((mr 14), aI k 4 mhd), (sa, aI k 37 f4)] := hD
  refine lv_aload_n hx hb dX8_grinds_36 rfl (lv_at hl 0 rfl) ?_
  refine va_get (D := D) (ci := 10) (v := .ref ma) (C := RX8) (T := TX8) (N := 37) hx hb hts in_X8 hown hg.1 hP 0 rfl rfl 3 (Nat.le_of_ble_eq_true rfl) (hts _ q1144) (fun _ h9 => h9) rfl dX8_grinds_37 ?_
  refine va_getN (D := D) (ci := 11) (v := .int (MI 8)) (C := RX13) (T := TX13) (N := 18) hx hb hts in_X13 hown hg.1 hP 1 rfl rfl 8 (Nat.le_of_ble_eq_true rfl) (nwF_191 hg) (fun _ h9 => h9) rfl dX8_grinds_40 ?_
  refine lv_iconst (v := 2) hx hb dX8_grinds_43 ci_2 ?_
  refine lv_isub hx hb dX8_grinds_44 ?_
  refine lv_topi (fun x5 ex5 => ?_)
  refine lv_istore_n (lv' := [(2, .int x5), (0, .ref o), (1, .ref sa)]) hx hb dX8_grinds_45 rfl hl (Nat.le_of_ble_eq_true rfl) rfl (fun ls hl => ?_)
  have loop6 : ∀ (n6 i6 : Nat) (X6 : (Nat → Int32)) (H : Heap) (locs : List Loc) (ls : Array Slot), i6 + n6 = nS - 1 → itD (f_X8_grinds_l46 MI mbr mnx nS) n6 X6 = itD (f_X8_grinds_l46 MI mbr mnx nS) (nS - 1) f4 → va_P D vwCl [(o, eMM r (.ref ma) fr I L), (ma, eMI mr MI), ((mr 12), aI k 5 mbr), ((mr 13), aI k 5 mnx), ((mr 14), aI k 4 mhd), (sa, aI k 37 X6)] H → va_D A [(o, eMM r (.ref ma) fr I L), (ma, eMI mr MI), ((mr 12), aI k 5 mbr), ((mr 13), aI k 5 mnx), ((mr 14), aI k 4 mhd), (sa, aI k 37 X6)] → va_S A s.heap H locs → lv_has ls 5 [(2, .int (nI n6 - 1)), (0, .ref o), (1, .ref sa)] → W p l e rm_X8_grinds s m ([.ref o, .ref sa] : List Value).toArray below meth c H locs 0 0 (MQ below (q_X8_grinds D k o r fr I L ma mr MI mbr mnx mhd sa sv ore nS A) ([.ref o, .ref sa] : List Value).toArray s 0 0 A) (F0 m 46 ls []) := by
    intro n6
    induction n6 with
    | zero =>
      intro i6 X6 H locs ls hn6 eX6 hP hD hS hl
      have hi6 : i6 = nS - 1 := by omega
      replace eX6 : X6 = itD (f_X8_grinds_l46 MI mbr mnx nS) (nS - 1) f4 := eX6
      refine lv_iload_n hx hb dX8_grinds_46 rfl (lv_at hl 0 rfl) ?_
      refine lv_if_lt (tgt := 151) hx hb dX8_grinds_47 (by decide) (fun _ => ?_) (fun c => absurd (by decide) c)
      refine lv_iconst (v := 0) hx hb dX8_grinds_151 ci_0 ?_
      refine lv_istore_n (lv' := [(2, .int 0), (0, .ref o), (1, .ref sa)]) hx hb dX8_grinds_152 rfl hl (Nat.le_of_ble_eq_true rfl) rfl (fun ls hl => ?_)
      have loop46 : ∀ (n46 i46 : Nat) (X46 : (Nat → Int32)) (H : Heap) (locs : List Loc) (ls : Array Slot), i46 + n46 = nS → X46 = itN (f_X8_grinds_l153 MI) i46 X6 → va_P D vwCl [(o, eMM r (.ref ma) fr I L), (ma, eMI mr MI), ((mr 12), aI k 5 mbr), ((mr 13), aI k 5 mnx), ((mr 14), aI k 4 mhd), (sa, aI k 37 X46)] H → va_D A [(o, eMM r (.ref ma) fr I L), (ma, eMI mr MI), ((mr 12), aI k 5 mbr), ((mr 13), aI k 5 mnx), ((mr 14), aI k 4 mhd), (sa, aI k 37 X46)] → va_S A s.heap H locs → lv_has ls 5 [(2, .int (nI i46)), (0, .ref o), (1, .ref sa)] → W p l e rm_X8_grinds s m ([.ref o, .ref sa] : List Value).toArray below meth c H locs 0 0 (MQ below (q_X8_grinds D k o r fr I L ma mr MI mbr mnx mhd sa sv ore nS A) ([.ref o, .ref sa] : List Value).toArray s 0 0 A) (F0 m 153 ls []) := by
        intro n46
        induction n46 with
        | zero =>
          intro i46 X46 H locs ls hn46 eX46 hP hD hS hl
          have hi46 : i46 = nS := by omega
          rw [hi46] at eX46
          refine lv_iload_n hx hb dX8_grinds_153 rfl (lv_at hl 0 rfl) ?_
          refine lv_aload_n hx hb dX8_grinds_154 rfl (lv_at hl 1 rfl) ?_
          refine va_get (D := D) (ci := 10) (v := .ref ma) (C := RX8) (T := TX8) (N := 37) hx hb hts in_X8 hown hg.1 hP 0 rfl rfl 3 (Nat.le_of_ble_eq_true rfl) (hts _ q1144) (fun _ h9 => h9) rfl dX8_grinds_155 ?_
          refine va_getN (D := D) (ci := 11) (v := .int (MI 8)) (C := RX13) (T := TX13) (N := 18) hx hb hts in_X13 hown hg.1 hP 1 rfl rfl 8 (Nat.le_of_ble_eq_true rfl) (nwF_191 hg) (fun _ h9 => h9) rfl dX8_grinds_158 ?_
          refine lv_icmp_ge (tgt := 243) hx hb dX8_grinds_161 (by decide) (fun _ => ?_) (fun c => absurd (xle_t hmS rfl (by omega) (by omega)) c)
          exact xret_v hx hb hr hlocks (Nat.le_of_ble_eq_true rfl) (Nat.le_of_ble_eq_true rfl) hS.2.2 dX8_grinds_243 (fun t ht => ⟨⟨X46, rfl, (by subst eX46; subst eX6; subst ex5; subst ef4; subst ex3; subst ef2; subst eu1; exact rfl), by rw [ht]; exact hP, hD⟩, hS.F ht⟩)
        | succ n46 ih46 =>
          intro i46 X46 H locs ls hn46 eX46 hP hD hS hl
          have hi46 : i46 < nS := by omega
          refine lv_iload_n hx hb dX8_grinds_153 rfl (lv_at hl 0 rfl) ?_
          refine lv_aload_n hx hb dX8_grinds_154 rfl (lv_at hl 1 rfl) ?_
          refine va_get (D := D) (ci := 10) (v := .ref ma) (C := RX8) (T := TX8) (N := 37) hx hb hts in_X8 hown hg.1 hP 0 rfl rfl 3 (Nat.le_of_ble_eq_true rfl) (hts _ q1144) (fun _ h9 => h9) rfl dX8_grinds_155 ?_
          refine va_getN (D := D) (ci := 11) (v := .int (MI 8)) (C := RX13) (T := TX13) (N := 18) hx hb hts in_X13 hown hg.1 hP 1 rfl rfl 8 (Nat.le_of_ble_eq_true rfl) (nwF_191 hg) (fun _ h9 => h9) rfl dX8_grinds_158 ?_
          refine lv_icmp_ge (tgt := 243) hx hb dX8_grinds_161 (by decide) (fun c => absurd c (xle_f hmS rfl (by omega) (by omega))) (fun _ => ?_)
          refine lv_aload_n hx hb dX8_grinds_164 rfl (lv_at hl 2 rfl) ?_
          refine lv_iconst (v := 0) hx hb dX8_grinds_165 ci_0 ?_
          refine lv_iload_n hx hb dX8_grinds_166 rfl (lv_at hl 0 rfl) ?_
          refine lv_iadd hx hb dX8_grinds_167 ?_
          refine xa_iald hx hb hg hP 5 rfl (xnadd xl_0 rfl) (by first | omega | exact Nat.lt_of_lt_of_le (Nat.mod_lt _ (by omega)) (by omega)) (by omega) dX8_grinds_168 ?_
          refine lv_bipush (v := 20) hx hb dX8_grinds_169 cb_20 ?_
          refine lv_bipush (v := 10) hx hb dX8_grinds_171 cb_10 ?_
          refine lv_aload_n hx hb dX8_grinds_173 rfl (lv_at hl 2 rfl) ?_
          refine lv_bipush (v := 35) hx hb dX8_grinds_174 cb_35 ?_
          refine xa_iald hx hb hg hP 5 rfl xl_35 (by first | omega | exact Nat.lt_of_lt_of_le (Nat.mod_lt _ (by omega)) (by omega)) (by omega) dX8_grinds_176 ?_
          refine lv_imul hx hb dX8_grinds_177 ?_
          refine lv_iadd hx hb dX8_grinds_178 ?_
          refine lv_imul hx hb dX8_grinds_179 ?_
          refine lv_bipush (v := 100) hx hb dX8_grinds_180 cb_100 ?_
          refine lv_idiv hx hb dX8_grinds_182 (by decide) ?_
          refine lv_topi (fun x77 ex77 => ?_)
          refine lv_istore_n (lv' := [(3, .int x77), (2, .int (nI i46)), (0, .ref o), (1, .ref sa)]) hx hb dX8_grinds_183 rfl hl (Nat.le_of_ble_eq_true rfl) rfl (fun ls hl => ?_)
          refine lv_iload_n hx hb dX8_grinds_184 rfl (lv_at hl 0 rfl) ?_
          refine lv_aload_n hx hb dX8_grinds_185 rfl (lv_at hl 2 rfl) ?_
          refine lv_iload_n hx hb dX8_grinds_186 rfl (lv_at hl 1 rfl) ?_
          refine lv_aload_n hx hb dX8_grinds_187 rfl (lv_at hl 3 rfl) ?_
          refine lv_bipush (v := 25) hx hb dX8_grinds_188 cb_25 ?_
          refine xa_iald hx hb hg hP 5 rfl xl_25 (by first | omega | exact Nat.lt_of_lt_of_le (Nat.mod_lt _ (by omega)) (by omega)) (by omega) dX8_grinds_190 ?_
          refine xc_i (wc := [(o, eMM r (.ref ma) fr I L), (ma, eMI mr MI)]) (wr := [((mr 12), aI k 5 mbr), ((mr 13), aI k 5 mnx), ((mr 14), aI k 4 mhd), (sa, aI k 37 X46)]) hP hD hS hA [0, 1] [2, 3, 4, 5] rfl rfl rfl (by decide) (xrV ⟨hx, hb, hml, hown, hts⟩ hg (m_X8_passes l D k _ o r fr I L ma mr MI (nI i46) (X46 25)) hP hD [0, 1] rfl rfl trivial (ci := 10) (q0 := 0) rfl rfl rfl q1534 q1536 qs68 q93 q1537 xo_X8_passes ⟨rfl, rfl⟩ ⟨Nat.le_of_ble_eq_true rfl, Nat.le_of_ble_eq_true rfl⟩ hl.1 (Nat.le_of_ble_eq_true rfl) dX8_grinds_191 ⟨Nat.le_of_ble_eq_true rfl, Nat.le_of_ble_eq_true rfl⟩ rfl) (fun u78 r_ H locs hw hP hD hS hk => ?_)
          obtain ⟨rfl, eu78⟩ := hw
          replace hP : va_P D vwCl [(o, eMM r (.ref ma) fr I L), (ma, eMI mr MI), ((mr 12), aI k 5 mbr), ((mr 13), aI k 5 mnx), ((mr 14), aI k 4 mhd), (sa, aI k 37 X46)] H := hP.sub [4, 5, 0, 1, 2, 3] rfl
          replace hD : va_D A [(o, eMM r (.ref ma) fr I L), (ma, eMI mr MI), ((mr 12), aI k 5 mbr), ((mr 13), aI k 5 mnx), ((mr 14), aI k 4 mhd), (sa, aI k 37 X46)] := hD.sub [4, 5, 0, 1, 2, 3] (by decide) rfl
          refine lv_imul hx hb dX8_grinds_194 ?_
          refine lv_bipush (v := 100) hx hb dX8_grinds_195 cb_100 ?_
          refine lv_idiv hx hb dX8_grinds_197 (by decide) ?_
          refine lv_topi (fun x79 ex79 => ?_)
          refine lv_istore (lv' := [(4, .int x79), (3, .int x77), (2, .int (nI i46)), (0, .ref o), (1, .ref sa)]) hx hb dX8_grinds_198 hl (Nat.le_of_ble_eq_true rfl) rfl (fun ls hl => ?_)
          refine lv_aload_n hx hb dX8_grinds_200 rfl (lv_at hl 4 rfl) ?_
          refine lv_iconst (v := 0) hx hb dX8_grinds_201 ci_0 ?_
          refine lv_iload_n hx hb dX8_grinds_202 rfl (lv_at hl 2 rfl) ?_
          refine lv_iadd hx hb dX8_grinds_203 ?_
          refine lv_dup2_11 hx hb dX8_grinds_204 rfl rfl ?_
          refine xa_iald hx hb hg hP 5 rfl (xnadd xl_0 rfl) (by first | omega | exact Nat.lt_of_lt_of_le (Nat.mod_lt _ (by omega)) (by omega)) (by omega) dX8_grinds_205 ?_
          refine lv_iload_n hx hb dX8_grinds_206 rfl (lv_at hl 1 rfl) ?_
          refine lv_isub hx hb dX8_grinds_207 ?_
          refine lv_topi (fun x80 ex80 => ?_)
          refine xa_iast hx hb hg hP hD hS 5 rfl (xnadd xl_0 rfl) (by omega) (by omega) dX8_grinds_208 (fun f81 H locs ef81 hP hD hS => ?_)
          replace hP : va_P D vwCl [(o, eMM r (.ref ma) fr I L), (ma, eMI mr MI), ((mr 12), aI k 5 mbr), ((mr 13), aI k 5 mnx), ((mr 14), aI k 4 mhd), (sa, aI k 37 f81)] H := hP
          replace hD : va_D A [(o, eMM r (.ref ma) fr I L), (ma, eMI mr MI), ((mr 12), aI k 5 mbr), ((mr 13), aI k 5 mnx), ((mr 14), aI k 4 mhd), (sa, aI k 37 f81)] := hD
          refine lv_aload_n hx hb dX8_grinds_209 rfl (lv_at hl 4 rfl) ?_
          refine lv_bipush (v := 10) hx hb dX8_grinds_210 cb_10 ?_
          refine lv_iload_n hx hb dX8_grinds_212 rfl (lv_at hl 2 rfl) ?_
          refine lv_iadd hx hb dX8_grinds_213 ?_
          refine lv_iload hx hb dX8_grinds_214 (lv_at hl 0 rfl) ?_
          refine xa_iast hx hb hg hP hD hS 5 rfl (xnadd xl_10 rfl) (by omega) (by omega) dX8_grinds_216 (fun f82 H locs ef82 hP hD hS => ?_)
          replace hP : va_P D vwCl [(o, eMM r (.ref ma) fr I L), (ma, eMI mr MI), ((mr 12), aI k 5 mbr), ((mr 13), aI k 5 mnx), ((mr 14), aI k 4 mhd), (sa, aI k 37 f82)] H := hP
          replace hD : va_D A [(o, eMM r (.ref ma) fr I L), (ma, eMI mr MI), ((mr 12), aI k 5 mbr), ((mr 13), aI k 5 mnx), ((mr 14), aI k 4 mhd), (sa, aI k 37 f82)] := hD
          refine lv_aload_n hx hb dX8_grinds_217 rfl (lv_at hl 4 rfl) ?_
          refine lv_bipush (v := 15) hx hb dX8_grinds_218 cb_15 ?_
          refine lv_iload_n hx hb dX8_grinds_220 rfl (lv_at hl 2 rfl) ?_
          refine lv_iadd hx hb dX8_grinds_221 ?_
          refine lv_dup2_11 hx hb dX8_grinds_222 rfl rfl ?_
          refine xa_iald hx hb hg hP 5 rfl (xnadd xl_15 rfl) (by first | omega | exact Nat.lt_of_lt_of_le (Nat.mod_lt _ (by omega)) (by omega)) (by omega) dX8_grinds_223 ?_
          refine lv_iload hx hb dX8_grinds_224 (lv_at hl 0 rfl) ?_
          refine lv_iadd hx hb dX8_grinds_226 ?_
          refine lv_topi (fun x83 ex83 => ?_)
          refine xa_iast hx hb hg hP hD hS 5 rfl (xnadd xl_15 rfl) (by omega) (by omega) dX8_grinds_227 (fun f84 H locs ef84 hP hD hS => ?_)
          replace hP : va_P D vwCl [(o, eMM r (.ref ma) fr I L), (ma, eMI mr MI), ((mr 12), aI k 5 mbr), ((mr 13), aI k 5 mnx), ((mr 14), aI k 4 mhd), (sa, aI k 37 f84)] H := hP
          replace hD : va_D A [(o, eMM r (.ref ma) fr I L), (ma, eMI mr MI), ((mr 12), aI k 5 mbr), ((mr 13), aI k 5 mnx), ((mr 14), aI k 4 mhd), (sa, aI k 37 f84)] := hD
          refine lv_aload_n hx hb dX8_grinds_228 rfl (lv_at hl 4 rfl) ?_
          refine lv_iconst (v := 5) hx hb dX8_grinds_229 ci_5 ?_
          refine lv_iload_n hx hb dX8_grinds_230 rfl (lv_at hl 2 rfl) ?_
          refine lv_iadd hx hb dX8_grinds_231 ?_
          refine lv_iload_n hx hb dX8_grinds_232 rfl (lv_at hl 1 rfl) ?_
          refine lv_iload hx hb dX8_grinds_233 (lv_at hl 0 rfl) ?_
          refine lv_isub hx hb dX8_grinds_235 ?_
          refine lv_topi (fun x85 ex85 => ?_)
          refine xa_iast hx hb hg hP hD hS 5 rfl (xnadd xl_5 rfl) (by omega) (by omega) dX8_grinds_236 (fun f86 H locs ef86 hP hD hS => ?_)
          replace hP : va_P D vwCl [(o, eMM r (.ref ma) fr I L), (ma, eMI mr MI), ((mr 12), aI k 5 mbr), ((mr 13), aI k 5 mnx), ((mr 14), aI k 4 mhd), (sa, aI k 37 f86)] H := hP
          replace hD : va_D A [(o, eMM r (.ref ma) fr I L), (ma, eMI mr MI), ((mr 12), aI k 5 mbr), ((mr 13), aI k 5 mnx), ((mr 14), aI k 4 mhd), (sa, aI k 37 f86)] := hD
          refine lv_iinc (v := (nI (i46 + 1))) (lv' := [(2, .int (nI (i46 + 1))), (4, .int x79), (3, .int x77), (0, .ref o), (1, .ref sa)]) hx hb dX8_grinds_237 hl (k := 2) rfl (xinc1 _) (Nat.le_of_ble_eq_true rfl) rfl (fun ls hl => ?_)
          refine lv_goto (tgt := 153) hx hb dX8_grinds_240 (by decide) ?_
          exact ih46 (i46 + 1) f86 _ _ _ (by omega) (Eq.trans (by subst ef86; subst ex85; subst ef84; subst ex83; subst ef82; subst ef81; subst ex80; subst ex79; subst eu78; subst ex77; exact rfl) (congrArg (f_X8_grinds_l153 MI i46) eX46)) hP hD hS (lv_sub hl [0, 3, 4] rfl)
      exact loop46 nS 0 X6 _ _ _ (by omega) rfl hP hD hS (by have h := (lv_sub hl [0, 1, 2] rfl); exact h)
    | succ n6 ih6 =>
      intro i6 X6 H locs ls hn6 eX6 hP hD hS hl
      have hi6 : n6 < nS - 1 := by omega
      rw [nI_pred] at hl
      refine lv_iload_n hx hb dX8_grinds_46 rfl (lv_at hl 0 rfl) ?_
      refine lv_if_lt (tgt := 151) hx hb dX8_grinds_47 (by decide) (fun c => absurd c (nI_pos (by omega))) (fun _ => ?_)
      refine lv_aload_n hx hb dX8_grinds_50 rfl (lv_at hl 2 rfl) ?_
      refine lv_iconst (v := 0) hx hb dX8_grinds_51 ci_0 ?_
      refine lv_iload_n hx hb dX8_grinds_52 rfl (lv_at hl 0 rfl) ?_
      refine lv_iadd hx hb dX8_grinds_53 ?_
      refine xa_iald hx hb hg hP 5 rfl (xnadd xl_0 rfl) (by first | omega | exact Nat.lt_of_lt_of_le (Nat.mod_lt _ (by omega)) (by omega)) (by omega) dX8_grinds_54 ?_
      refine lv_aload_n hx hb dX8_grinds_55 rfl (lv_at hl 1 rfl) ?_
      refine va_get (D := D) (ci := 10) (v := .ref ma) (C := RX8) (T := TX8) (N := 37) hx hb hts in_X8 hown hg.1 hP 0 rfl rfl 3 (Nat.le_of_ble_eq_true rfl) (hts _ q1144) (fun _ h9 => h9) rfl dX8_grinds_56 ?_
      refine va_getN (D := D) (ci := 11) (v := .ref (mr 12)) (C := RX13) (T := TX13) (N := 18) hx hb hts in_X13 hown hg.1 hP 1 rfl rfl 12 (Nat.le_of_ble_eq_true rfl) (nwF_267 hg) (fun _ h9 => h9) rfl dX8_grinds_59 ?_
      refine lv_iload_n hx hb dX8_grinds_62 rfl (lv_at hl 0 rfl) ?_
      refine xa_iald hx hb hg hP 2 rfl rfl (by first | omega | exact Nat.lt_of_lt_of_le (Nat.mod_lt _ (by omega)) (by omega)) (by omega) dX8_grinds_63 ?_
      refine lv_imul hx hb dX8_grinds_64 ?_
      refine lv_aload_n hx hb dX8_grinds_65 rfl (lv_at hl 2 rfl) ?_
      refine lv_bipush (v := 29) hx hb dX8_grinds_66 cb_29 ?_
      refine xa_iald hx hb hg hP 5 rfl xl_29 (by first | omega | exact Nat.lt_of_lt_of_le (Nat.mod_lt _ (by omega)) (by omega)) (by omega) dX8_grinds_68 ?_
      refine lv_imul hx hb dX8_grinds_69 ?_
      refine lv_sipush (v := 10000) hx hb dX8_grinds_70 cs_10000 ?_
      refine lv_idiv hx hb dX8_grinds_73 (by decide) ?_
      refine lv_topi (fun x87 ex87 => ?_)
      refine lv_istore_n (lv' := [(3, .int x87), (2, .int (nI n6)), (0, .ref o), (1, .ref sa)]) hx hb dX8_grinds_74 rfl hl (Nat.le_of_ble_eq_true rfl) rfl (fun ls hl => ?_)
      refine lv_iload_n hx hb dX8_grinds_75 rfl (lv_at hl 0 rfl) ?_
      refine lv_aload_n hx hb dX8_grinds_76 rfl (lv_at hl 2 rfl) ?_
      refine va_get (D := D) (ci := 10) (v := .ref ma) (C := RX8) (T := TX8) (N := 37) hx hb hts in_X8 hown hg.1 hP 0 rfl rfl 3 (Nat.le_of_ble_eq_true rfl) (hts _ q1144) (fun _ h9 => h9) rfl dX8_grinds_77 ?_
      refine va_getN (D := D) (ci := 11) (v := .ref (mr 13)) (C := RX13) (T := TX13) (N := 18) hx hb hts in_X13 hown hg.1 hP 1 rfl rfl 13 (Nat.le_of_ble_eq_true rfl) (nwF_270 hg) (fun _ h9 => h9) rfl dX8_grinds_80 ?_
      refine lv_iload_n hx hb dX8_grinds_83 rfl (lv_at hl 1 rfl) ?_
      refine xa_iald hx hb hg hP 3 rfl rfl (by first | omega | exact Nat.lt_of_lt_of_le (Nat.mod_lt _ (by omega)) (by omega)) (by omega) dX8_grinds_84 ?_
      refine lv_imul hx hb dX8_grinds_85 ?_
      refine lv_bipush (v := 100) hx hb dX8_grinds_86 cb_100 ?_
      refine lv_idiv hx hb dX8_grinds_88 (by decide) ?_
      refine lv_topi (fun x88 ex88 => ?_)
      refine lv_istore (lv' := [(4, .int x88), (3, .int x87), (2, .int (nI n6)), (0, .ref o), (1, .ref sa)]) hx hb dX8_grinds_89 hl (Nat.le_of_ble_eq_true rfl) rfl (fun ls hl => ?_)
      refine lv_aload_n hx hb dX8_grinds_91 rfl (lv_at hl 4 rfl) ?_
      refine lv_iconst (v := 0) hx hb dX8_grinds_92 ci_0 ?_
      refine lv_iload_n hx hb dX8_grinds_93 rfl (lv_at hl 2 rfl) ?_
      refine lv_iadd hx hb dX8_grinds_94 ?_
      refine lv_dup2_11 hx hb dX8_grinds_95 rfl rfl ?_
      refine xa_iald hx hb hg hP 5 rfl (xnadd xl_0 rfl) (by first | omega | exact Nat.lt_of_lt_of_le (Nat.mod_lt _ (by omega)) (by omega)) (by omega) dX8_grinds_96 ?_
      refine lv_iload_n hx hb dX8_grinds_97 rfl (lv_at hl 1 rfl) ?_
      refine lv_isub hx hb dX8_grinds_98 ?_
      refine lv_topi (fun x89 ex89 => ?_)
      refine xa_iast hx hb hg hP hD hS 5 rfl (xnadd xl_0 rfl) (by omega) (by omega) dX8_grinds_99 (fun f90 H locs ef90 hP hD hS => ?_)
      replace hP : va_P D vwCl [(o, eMM r (.ref ma) fr I L), (ma, eMI mr MI), ((mr 12), aI k 5 mbr), ((mr 13), aI k 5 mnx), ((mr 14), aI k 4 mhd), (sa, aI k 37 f90)] H := hP
      replace hD : va_D A [(o, eMM r (.ref ma) fr I L), (ma, eMI mr MI), ((mr 12), aI k 5 mbr), ((mr 13), aI k 5 mnx), ((mr 14), aI k 4 mhd), (sa, aI k 37 f90)] := hD
      refine lv_aload_n hx hb dX8_grinds_100 rfl (lv_at hl 4 rfl) ?_
      refine lv_iconst (v := 0) hx hb dX8_grinds_101 ci_0 ?_
      refine lv_iload_n hx hb dX8_grinds_102 rfl (lv_at hl 2 rfl) ?_
      refine lv_iadd hx hb dX8_grinds_103 ?_
      refine lv_iconst (v := 1) hx hb dX8_grinds_104 ci_1 ?_
      refine lv_iadd hx hb dX8_grinds_105 ?_
      refine lv_dup2_11 hx hb dX8_grinds_106 rfl rfl ?_
      refine xa_iald hx hb hg hP 5 rfl (xnadd (xnadd xl_0 rfl) xl_1) (by first | omega | exact Nat.lt_of_lt_of_le (Nat.mod_lt _ (by omega)) (by omega)) (by omega) dX8_grinds_107 ?_
      refine lv_iload hx hb dX8_grinds_108 (lv_at hl 0 rfl) ?_
      refine lv_iadd hx hb dX8_grinds_110 ?_
      refine lv_topi (fun x91 ex91 => ?_)
      refine xa_iast hx hb hg hP hD hS 5 rfl (xnadd (xnadd xl_0 rfl) xl_1) (by omega) (by omega) dX8_grinds_111 (fun f92 H locs ef92 hP hD hS => ?_)
      replace hP : va_P D vwCl [(o, eMM r (.ref ma) fr I L), (ma, eMI mr MI), ((mr 12), aI k 5 mbr), ((mr 13), aI k 5 mnx), ((mr 14), aI k 4 mhd), (sa, aI k 37 f92)] H := hP
      replace hD : va_D A [(o, eMM r (.ref ma) fr I L), (ma, eMI mr MI), ((mr 12), aI k 5 mbr), ((mr 13), aI k 5 mnx), ((mr 14), aI k 4 mhd), (sa, aI k 37 f92)] := hD
      refine lv_aload_n hx hb dX8_grinds_112 rfl (lv_at hl 4 rfl) ?_
      refine lv_iconst (v := 0) hx hb dX8_grinds_113 ci_0 ?_
      refine lv_iload_n hx hb dX8_grinds_114 rfl (lv_at hl 2 rfl) ?_
      refine lv_iconst (v := 2) hx hb dX8_grinds_115 ci_2 ?_
      refine lv_iadd hx hb dX8_grinds_116 ?_
      refine lv_aload_n hx hb dX8_grinds_117 rfl (lv_at hl 3 rfl) ?_
      refine va_get (D := D) (ci := 10) (v := .ref ma) (C := RX8) (T := TX8) (N := 37) hx hb hts in_X8 hown hg.1 hP 0 rfl rfl 3 (Nat.le_of_ble_eq_true rfl) (hts _ q1144) (fun _ h9 => h9) rfl dX8_grinds_118 ?_
      refine va_getN (D := D) (ci := 11) (v := .int (MI 8)) (C := RX13) (T := TX13) (N := 18) hx hb hts in_X13 hown hg.1 hP 1 rfl rfl 8 (Nat.le_of_ble_eq_true rfl) (nwF_191 hg) (fun _ h9 => h9) rfl dX8_grinds_121 ?_
      have Jn4 : ∀ (v95 : (Int32)) (H : Heap) (locs : List Loc) (ls : Array Slot), v95 = f_X8_grinds_j4 MI n6 → va_P D vwCl [(o, eMM r (.ref ma) fr I L), (ma, eMI mr MI), ((mr 12), aI k 5 mbr), ((mr 13), aI k 5 mnx), ((mr 14), aI k 4 mhd), (sa, aI k 37 f92)] H → va_D A [(o, eMM r (.ref ma) fr I L), (ma, eMI mr MI), ((mr 12), aI k 5 mbr), ((mr 13), aI k 5 mnx), ((mr 14), aI k 4 mhd), (sa, aI k 37 f92)] → va_S A s.heap H locs → lv_has ls 5 [(4, .int x88), (3, .int x87), (2, .int (nI n6)), (0, .ref o), (1, .ref sa)] → W p l e rm_X8_grinds s m ([.ref o, .ref sa] : List Value).toArray below meth c H locs 0 0 (MQ below (q_X8_grinds D k o r fr I L ma mr MI mbr mnx mhd sa sv ore nS A) ([.ref o, .ref sa] : List Value).toArray s 0 0 A) (F0 m 136 ls [.int v95, .int 0, .ref sa]) := by
        intro v95 H locs ls ev95 hP hD hS hl
        obtain ⟨j96, ej96⟩ : ∃ z : Nat, z = if n6 + 2 < nS then n6 + 2 else n6 + 1 := ⟨_, rfl⟩
        have hj96 : j96 < 5 := by rw [ej96]; split <;> omega
        have hv95 : v95 = nI j96 := by rw [ev95, ej96]; exact (xix hmS hS5).resolve_right (by omega)
        refine lv_iadd hx hb dX8_grinds_136 ?_
        refine lv_dup2_11 hx hb dX8_grinds_137 rfl rfl ?_
        refine xa_iald hx hb hg hP 5 rfl (xnadd xl_0 hv95) (by first | omega | exact Nat.lt_of_lt_of_le (Nat.mod_lt _ (by omega)) (by omega)) (by omega) dX8_grinds_138 ?_
        refine lv_iload_n hx hb dX8_grinds_139 rfl (lv_at hl 1 rfl) ?_
        refine lv_iload hx hb dX8_grinds_140 (lv_at hl 0 rfl) ?_
        refine lv_isub hx hb dX8_grinds_142 ?_
        refine lv_iadd hx hb dX8_grinds_143 ?_
        refine lv_topi (fun x97 ex97 => ?_)
        refine xa_iast hx hb hg hP hD hS 5 rfl (xnadd xl_0 hv95) (by omega) (by omega) dX8_grinds_144 (fun f98 H locs ef98 hP hD hS => ?_)
        replace hP : va_P D vwCl [(o, eMM r (.ref ma) fr I L), (ma, eMI mr MI), ((mr 12), aI k 5 mbr), ((mr 13), aI k 5 mnx), ((mr 14), aI k 4 mhd), (sa, aI k 37 f98)] H := hP
        replace hD : va_D A [(o, eMM r (.ref ma) fr I L), (ma, eMI mr MI), ((mr 12), aI k 5 mbr), ((mr 13), aI k 5 mnx), ((mr 14), aI k 4 mhd), (sa, aI k 37 f98)] := hD
        refine lv_iinc (v := (nI n6 - 1)) (lv' := [(2, .int (nI n6 - 1)), (4, .int x88), (3, .int x87), (0, .ref o), (1, .ref sa)]) hx hb dX8_grinds_145 hl (k := 2) rfl (xdec1 _) (Nat.le_of_ble_eq_true rfl) rfl (fun ls hl => ?_)
        refine lv_goto (tgt := 46) hx hb dX8_grinds_148 (by decide) ?_
        exact ih6 (i6 + 1) f98 _ _ _ (by omega) (Eq.trans (congrArg (itD (f_X8_grinds_l46 MI mbr mnx nS) n6) (by subst ef98; subst ex97; subst ej96; subst ev95; subst ef92; subst ex91; subst ef90; subst ex89; subst ex88; subst ex87; exact rfl)) eX6) hP hD hS (lv_sub hl [0, 3, 4] rfl)
      refine lv_icmp_ge (tgt := 133) hx hb dX8_grinds_124 (by decide) (fun c99 => ?_) (fun c99 => ?_)
      · refine lv_iload_n hx hb dX8_grinds_133 rfl (lv_at hl 2 rfl) ?_
        refine lv_iconst (v := 1) hx hb dX8_grinds_134 ci_1 ?_
        refine lv_iadd hx hb dX8_grinds_135 ?_
        exact Jn4 ((nI n6) + 1) _ _ _ (by exact Eq.symm (Eq.trans (if_pos c99) (rfl))) hP hD hS (lv_sub hl [0, 1, 2, 3, 4] rfl)
      · refine lv_iload_n hx hb dX8_grinds_127 rfl (lv_at hl 2 rfl) ?_
        refine lv_iconst (v := 2) hx hb dX8_grinds_128 ci_2 ?_
        refine lv_iadd hx hb dX8_grinds_129 ?_
        refine lv_goto (tgt := 136) hx hb dX8_grinds_130 (by decide) ?_
        exact Jn4 ((nI n6) + 2) _ _ _ (by exact Eq.symm (Eq.trans (if_neg c99) (rfl))) hP hD hS (lv_sub hl [0, 1, 2, 3, 4] rfl)
  exact loop6 (nS - 1) 0 f4 _ _ _ (by omega) rfl hP hD hS (by rw [show nI (nS - 1) - 1 = x5 from (by rw [ex5]; exact xdn2 hmS hS2)]; exact (lv_sub hl [0, 1, 2] rfl))
