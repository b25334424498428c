set_option maxRecDepth 100000
/-- a counter that has gone up at most i times -/
def cnt (y : Int32) (i : Nat) : Prop := ∃ j, j ≤ i ∧ y = nI j
theorem cnt.same {y : Int32} {i : Nat} (h : cnt y i) : cnt y (i + 1) := by obtain ⟨j, h1, h2⟩ := h; exact ⟨j, by omega, h2⟩
theorem cnt.inc {y : Int32} {i : Nat} (h : cnt y i) : cnt (y + 1) (i + 1) := by obtain ⟨j, h1, h2⟩ := h; exact ⟨j + 1, by omega, by rw [h2]; exact (nI_succ j).symm⟩
theorem cnt.zero : cnt 0 0 := ⟨0, Nat.le_refl _, by decide⟩
theorem cnt.nat {y : Int32} {i : Nat} (h : cnt y i) (hi : i < 2 ^ 31) : y = nI y.toNatClampNeg ∧ y.toNatClampNeg ≤ i := by
  obtain ⟨j, h1, rfl⟩ := h
  rw [nI_clamp (by omega)]
  exact ⟨rfl, h1⟩
theorem shl4 {n : Int32} {nj : Nat} (hn : n = nI nj) (h5 : nj ≤ 5) : (1 : Int32) <<< ((2 * n) &&& 31) = nI (4 ^ nj) := by
  subst hn
  rcases (show nj = 0 ∨ nj = 1 ∨ nj = 2 ∨ nj = 3 ∨ nj = 4 ∨ nj = 5 by omega) with h | h | h | h | h | h <;> subst h <;> decide
theorem pow4 {nj : Nat} (h5 : nj ≤ 5) : 4 ^ nj ≤ 1024 := by
  rcases (show nj = 0 ∨ nj = 1 ∨ nj = 2 ∨ nj = 3 ∨ nj = 4 ∨ nj = 5 by omega) with h | h | h | h | h | h <;> subst h <;> decide
