set_option maxRecDepth 100000
def f_X13_find_l2 (mnm : Nat → Int64) (wd : Int64) : Nat → Nat → (Unit) → (Int32) ⊕ (Unit)
  | 0, i1, X1 => .inr X1
  | n1 + 1, i1, X1 => if (lg_cmp (mnm i1) wd) = 0 then
      .inl (nI i1)
    else
      f_X13_find_l2 mnm wd n1 (i1 + 1) ()
def f_X13_find (mnm : Nat → Int64) (wd : Int64) (nN : Nat) : Int32 :=
  Sum.elim (fun r_ => r_) (fun X1 =>
    (-1)) (f_X13_find_l2 mnm wd nN 0 ())
abbrev q_X13_find (D : va_G) (k : KK) (ma : Nat) (mr : Nat → Nat) (MI : Nat → Int32) (mnm : Nat → Int64) (wd : Int64) (nN : Nat) (A : Nat → Prop) : Array Value → State → Outcome → State → Prop := va_Qi (fun (r_ : Int32) (u : Int32) => r_ = u ∧ u = f_X13_find mnm wd nN) (bx D (fun u => [(ma, eMI mr MI), ((mr 16), aL k 9 mnm)]) A) A
abbrev rm_X13_find : Room := { frames := 1, cells := 0, slots := 0, locals := 40 }
theorem xo_X13_find : xok yX13_find 1 := by unfold xok; decide +kernel
set_option maxHeartbeats 8000000 in
theorem m_X13_find (l : Launch) (D : va_G) (k : KK) (sz : Nat) (ma : Nat) (mr : Nat → Nat) (MI : Nat → Int32) (mnm : Nat → Int64) (wd : Int64) (nN : Nat) (hnN : MI 10 = nI nN) (hN9 : nN ≤ 9) : Met l yX13_find (ws_ yX13_find cX13_find 4 (some .int)) rm_X13_find (pcx D k [.ref ma, .long wd] sz [(ma, eMI mr MI), ((mr 16), aL k 9 mnm)] (fun _ => True)) (q_X13_find D k ma mr MI mnm wd nN (va_A [(ma, eMI mr MI), ((mr 16), aL k 9 mnm)] sz)) 0 0 (va_A [(ma, eMI mr MI), ((mr 16), aL k 9 mnm)] sz) := by
  refine Met.start (Qc := q_X13_find D k ma mr MI mnm wd nN) (by decide) (Nat.le_of_ble_eq_true rfl) ?_
  intro p e s m below meth c A hx hb hr hlocks hml hown hin hts hg hP hD hA hAn hS hY hsz ls hl
  have hown : s.vm.findClass RX13 = some m.cls := hown
  have hl : lv_has ls 4 [(0, .ref ma), (1, .long wd)] := hl
  refine lv_iconst (v := 0) hx hb dX13_find_0 ci_0 ?_
  refine lv_istore_n (lv' := [(3, .int 0), (0, .ref ma), (1, .long wd)]) hx hb dX13_find_1 rfl hl (Nat.le_of_ble_eq_true rfl) rfl (fun ls hl => ?_)
  have loop1 : ∀ (n1 i1 : Nat) (X1 : Unit) (H : Heap) (locs : List Loc) (ls : Array Slot), i1 + n1 = nN → f_X13_find_l2 mnm wd n1 i1 X1 = f_X13_find_l2 mnm wd nN 0 () → va_P D vwCl [(ma, eMI mr MI), ((mr 16), aL k 9 mnm)] H → va_D A [(ma, eMI mr MI), ((mr 16), aL k 9 mnm)] → va_S A s.heap H locs → lv_has ls 4 [(3, .int (nI i1)), (0, .ref ma), (1, .long wd)] → W p l e rm_X13_find s m ([.ref ma, .long wd] : List Value).toArray below meth c H locs 0 0 (MQ below (q_X13_find D k ma mr MI mnm wd nN A) ([.ref ma, .long wd] : List Value).toArray s 0 0 A) (F0 m 2 ls []) := by
    intro n1
    induction n1 with
    | zero =>
      intro i1 X1 H locs ls hn1 eX1 hP hD hS hl
      have hi1 : i1 = nN := by omega
      replace eX1 : f_X13_find_l2 mnm wd nN 0 () = Sum.inr X1 := eX1.symm
      refine lv_iload_n hx hb dX13_find_2 rfl (lv_at hl 0 rfl) ?_
      refine lv_aload_n hx hb dX13_find_3 rfl (lv_at hl 1 rfl) ?_
      refine va_get (D := D) (ci := 11) (v := .int (MI 10)) (C := RX13) (T := TX13) (N := 18) hx hb hts in_X13 hown hg.1 hP 0 rfl rfl 10 (Nat.le_of_ble_eq_true rfl) (hts _ q1289) (fun _ h9 => h9) rfl dX13_find_4 ?_
      refine lv_icmp_ge (tgt := 29) hx hb dX13_find_7 (by decide) (fun _ => ?_) (fun c => absurd (xle_t hnN rfl (by omega) (by omega)) c)
      refine lv_iconst (v := (-1)) hx hb dX13_find_29 ci_m1 ?_
      exact xret_i hx hb hr hlocks (Nat.le_of_ble_eq_true rfl) (Nat.le_of_ble_eq_true rfl) hS.2.2 dX13_find_30 (fun t ht => ⟨⟨(-1), (-1), rfl, ⟨rfl, (by exact Eq.symm (Eq.trans (xm_r eX1) (rfl)))⟩, by rw [ht]; exact hP, hD⟩, hS.F ht⟩)
    | succ n1 ih1 =>
      intro i1 X1 H locs ls hn1 eX1 hP hD hS hl
      have hi1 : i1 < nN := by omega
      refine lv_iload_n hx hb dX13_find_2 rfl (lv_at hl 0 rfl) ?_
      refine lv_aload_n hx hb dX13_find_3 rfl (lv_at hl 1 rfl) ?_
      refine va_get (D := D) (ci := 11) (v := .int (MI 10)) (C := RX13) (T := TX13) (N := 18) hx hb hts in_X13 hown hg.1 hP 0 rfl rfl 10 (Nat.le_of_ble_eq_true rfl) (hts _ q1289) (fun _ h9 => h9) rfl dX13_find_4 ?_
      refine lv_icmp_ge (tgt := 29) hx hb dX13_find_7 (by decide) (fun c => absurd c (xle_f hnN rfl (by omega) (by omega))) (fun _ => ?_)
      refine lv_aload_n hx hb dX13_find_10 rfl (lv_at hl 1 rfl) ?_
      refine va_get (D := D) (ci := 11) (v := .ref (mr 16)) (C := RX13) (T := TX13) (N := 18) hx hb hts in_X13 hown hg.1 hP 0 rfl rfl 16 (Nat.le_of_ble_eq_true rfl) (hts _ q1301) (fun _ h9 => h9) rfl dX13_find_11 ?_
      refine lv_iload_n hx hb dX13_find_14 rfl (lv_at hl 0 rfl) ?_
      refine xa_lald hx hb hg hP 1 rfl rfl (by first | omega | exact Nat.lt_of_lt_of_le (Nat.mod_lt _ (by omega)) (by omega)) (by omega) dX13_find_15 ?_
      refine lv_lload_n hx hb dX13_find_16 rfl (lv_at hl 2 rfl) ?_
      refine W.lcmp hx hb dX13_find_17 ?_
      refine lv_if_ne (tgt := 23) hx hb dX13_find_18 (by decide) (fun c4 => ?_) (fun c4 => ?_)
      · refine lv_iinc (v := (nI (i1 + 1))) (lv' := [(3, .int (nI (i1 + 1))), (0, .ref ma), (1, .long wd)]) hx hb dX13_find_23 hl (k := 0) rfl (xinc1 _) (Nat.le_of_ble_eq_true rfl) rfl (fun ls hl => ?_)
        refine lv_goto (tgt := 2) hx hb dX13_find_26 (by decide) ?_
        exact ih1 (i1 + 1) () _ _ _ (by omega) (Eq.trans (by exact Eq.symm (Eq.trans (if_neg c4) (rfl))) eX1) hP hD hS (lv_sub hl [0, 1, 2] rfl)
      · refine lv_iload_n hx hb dX13_find_21 rfl (lv_at hl 0 rfl) ?_
        exact xret_i hx hb hr hlocks (Nat.le_of_ble_eq_true rfl) (Nat.le_of_ble_eq_true rfl) hS.2.2 dX13_find_22 (fun t ht => ⟨⟨(nI i1), (nI i1), rfl, ⟨rfl, (by exact Eq.symm (xm_l0 (Eq.trans eX1.symm (Eq.trans (if_pos c4) (rfl)))))⟩, by rw [ht]; exact hP, hD⟩, hS.F ht⟩)
  exact loop1 nN 0 () _ _ _ (by omega) rfl hP hD hS (lv_sub hl [0, 1, 2] rfl)
