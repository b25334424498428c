set_option maxRecDepth 100000
def f_X8_bits_l4  : Nat → ((Int32) × (Int32)) → (Int32) × (Int32)
  | 0, X1 => X1
  | n1 + 1, X1 => if X1.1 = 0 then
      (X1.1, X1.2)
    else
      let x15 := X1.2 + 1
      let x16 := (X1.1 &&& (X1.1 - 1))
      f_X8_bits_l4 n1 (x16, x15)
def f_X8_bits (x : Int32) (xj : Nat) : Int32 :=
  let Y1 := f_X8_bits_l4 (xj + 1) (x, 0)
  Y1.2
abbrev q_X8_bits (D : va_G) (k : KK) (x : Int32) (xj : Nat) (A : Nat → Prop) : Array Value → State → Outcome → State → Prop := va_Qi (fun (r_ : Int32) (u : Int32) => r_ = u ∧ u = f_X8_bits x xj) (bx D (fun u => []) A) A
abbrev rm_X8_bits : Room := { frames := 1, cells := 0, slots := 0, locals := 40 }
theorem xo_X8_bits : xok yX8_bits 1 := by unfold xok; decide +kernel
set_option maxHeartbeats 8000000 in
theorem m_X8_bits (l : Launch) (D : va_G) (k : KK) (sz : Nat) (x : Int32) (xj : Nat) (hxj : x = nI xj) (hxb : xj < 2 ^ 31) : Met l yX8_bits (ws_ yX8_bits cX8_bits 3 (some .int)) rm_X8_bits (pcx D k [.int x] sz [] (fun _ => True)) (q_X8_bits D k x xj (va_A [] sz)) 0 0 (va_A [] sz) := by
  refine Met.start (Qc := q_X8_bits D k x xj) (by decide) (Nat.le_of_ble_eq_true rfl) ?_
  intro p e s m below meth c A hx hb hr hlocks hml hown hin hts hg hP hD hA hAn hS hY hsz ls hl
  have hown : s.vm.findClass RX8 = some m.cls := hown
  have hl : lv_has ls 3 [(0, .int x)] := hl
  refine lv_iconst (v := 0) hx hb dX8_bits_0 ci_0 ?_
  refine lv_istore_n (lv' := [(1, .int 0), (0, .int x)]) hx hb dX8_bits_1 rfl hl (Nat.le_of_ble_eq_true rfl) rfl (fun ls hl => ?_)
  refine lv_iload_n hx hb dX8_bits_2 rfl (lv_at hl 1 rfl) ?_
  refine lv_istore_n (lv' := [(2, .int x), (1, .int 0), (0, .int x)]) hx hb dX8_bits_3 rfl hl (Nat.le_of_ble_eq_true rfl) rfl (fun ls hl => ?_)
  have Jx1 : ∀ (Y1 : (Int32) × (Int32)) (H : Heap) (locs : List Loc) (ls : Array Slot), Y1 = f_X8_bits_l4 (xj + 1) (x, 0) → va_P D vwCl [] H → va_D A [] → va_S A s.heap H locs → lv_has ls 3 [(2, .int Y1.1), (1, .int Y1.2), (0, .int x)] → W p l e rm_X8_bits s m ([.int x] : List Value).toArray below meth c H locs 0 0 (MQ below (q_X8_bits D k x xj A) ([.int x] : List Value).toArray s 0 0 A) (F0 m 20 ls []) := by
    intro Y1 H locs ls eY1 hP hD hS hl
    refine lv_iload_n hx hb dX8_bits_20 rfl (lv_at hl 1 rfl) ?_
    exact xret_i hx hb hr hlocks (Nat.le_of_ble_eq_true rfl) (Nat.le_of_ble_eq_true rfl) hS.2.2 dX8_bits_21 (fun t ht => ⟨⟨Y1.2, Y1.2, rfl, ⟨rfl, (by subst eY1; exact rfl)⟩, by rw [ht]; exact hP, hD⟩, hS.F ht⟩)
  have loop1 : ∀ (n1 : Nat) (X1 : (Int32) × (Int32)) (H : Heap) (locs : List Loc) (ls : Array Slot), f_X8_bits_l4 n1 X1 = f_X8_bits_l4 (xj + 1) (x, 0) → (∃ m, X1.1 = nI m ∧ m < n1 ∧ m < 2 ^ 31) → va_P D vwCl [] H → va_D A [] → va_S A s.heap H locs → lv_has ls 3 [(2, .int X1.1), (1, .int X1.2), (0, .int x)] → W p l e rm_X8_bits s m ([.int x] : List Value).toArray below meth c H locs 0 0 (MQ below (q_X8_bits D k x xj A) ([.int x] : List Value).toArray s 0 0 A) (F0 m 4 ls []) := by
    intro n1
    induction n1 with
    | zero => intro X1 H locs ls eX1 hv1; exact absurd (by obtain ⟨m_, _, h_, _⟩ := hv1; omega) (fun h => h)
    | succ n1 ih1 =>
      intro X1 H locs ls eX1 hv1 hP hD hS hl
      refine lv_iload_n hx hb dX8_bits_4 rfl (lv_at hl 0 rfl) ?_
      refine lv_if_eq (tgt := 20) hx hb dX8_bits_5 (by decide) (fun c14 => ?_) (fun c14 => ?_)
      · exact Jx1 (X1.1, X1.2) _ _ _ (Eq.trans (by exact Eq.symm (Eq.trans (if_pos c14) (rfl))) eX1) hP hD hS (lv_sub hl [0, 1, 2] rfl)
      · obtain ⟨x15, ex15⟩ : ∃ z : Int32, z = X1.2 + 1 := ⟨_, rfl⟩
        refine lv_iinc (v := x15) (lv' := [(1, .int x15), (2, .int X1.1), (0, .int x)]) hx hb dX8_bits_8 hl (k := 1) rfl (by rw [ex15, ci_1]) (Nat.le_of_ble_eq_true rfl) rfl (fun ls hl => ?_)
        refine lv_iload_n hx hb dX8_bits_11 rfl (lv_at hl 1 rfl) ?_
        refine lv_iload_n hx hb dX8_bits_12 rfl (lv_at hl 1 rfl) ?_
        refine lv_iconst (v := 1) hx hb dX8_bits_13 ci_1 ?_
        refine lv_isub hx hb dX8_bits_14 ?_
        refine lv_iand hx hb dX8_bits_15 ?_
        refine lv_topi (fun x16 ex16 => ?_)
        refine lv_istore_n (lv' := [(2, .int x16), (1, .int x15), (0, .int x)]) hx hb dX8_bits_16 rfl hl (Nat.le_of_ble_eq_true rfl) rfl (fun ls hl => ?_)
        refine lv_goto (tgt := 4) hx hb dX8_bits_17 (by decide) ?_
        exact ih1 (x16, x15) _ _ _ (Eq.trans (by subst ex16; subst ex15; exact Eq.symm (Eq.trans (if_neg c14) (rfl))) eX1) (by show ∃ m, x16 = nI m ∧ m < n1 ∧ m < 2 ^ 31; rw [ex16]; exact bt_step hv1 c14) hP hD hS (lv_sub hl [0, 1, 2] rfl)
  exact loop1 (xj + 1) (x, 0) _ _ _ rfl ⟨xj, hxj, Nat.lt_succ_self _, hxb⟩ hP hD hS (lv_sub hl [0, 1, 2] rfl)
