set_option maxRecDepth 100000
/-- a place on the tape: a number, at most z -/
def atz (z : Nat) (x : Int32) : Prop := x = nI x.toNatClampNeg ∧ x.toNatClampNeg ≤ z
theorem atz.of {z a : Nat} {x : Int32} (h : x = nI a) (ha : a ≤ z) (hz : z ≤ 700) : atz z x := by
  have h1 : x.toNatClampNeg = a := by rw [h]; exact nI_clamp (by omega)
  exact ⟨by rw [h1]; exact h, by omega⟩
theorem atz.step {z n : Nat} {x : Int32} (hv : atz z x ∧ z - x.toNatClampNeg < n + 1) (hlt : x.toNatClampNeg < z) (hz : z ≤ 700) : atz z (x + 1) ∧ z - (x + 1).toNatClampNeg < n := by
  have h1 : x + 1 = nI (x.toNatClampNeg + 1) := xnadd hv.1.1 (show (1 : Int32) = nI 1 by decide)
  have h2 : (x + 1).toNatClampNeg = x.toNatClampNeg + 1 := by rw [h1]; exact nI_clamp (by omega)
  exact ⟨atz.of h1 (by omega) hz, by omega⟩
theorem ba_in {I tp : Nat → Int32} {x : Int32} {xj zj : Nat} (h : ¬ f_X8_byteAt I tp x xj = -1) (hx : x = nI xj) (hz : I 7 = nI zj) (hb : xj < 2 ^ 31) : xj < zj := by
  rcases Nat.lt_or_ge xj zj with h1 | h1
  · exact h1
  · refine absurd ?_ h
    show f_X8_byteAt_j1 I tp x xj = -1
    unfold f_X8_byteAt_j1
    rw [if_pos (xle_t hz hx h1 hb)]
theorem le_ne {u : Int32} (h : ¬ f_X8_isLetter u = 0) : ¬ u = -1 := by intro h1; rw [h1] at h; exact h (by decide)
theorem di_ne {u : Int32} (h : ¬ f_X8_isDigit u = 0) : ¬ u = -1 := by intro h1; rw [h1] at h; exact h (by decide)
theorem e32_ne {u : Int32} (h : u = 32) : ¬ u = -1 := by intro h1; rw [h1] at h; exact absurd h (by decide)
