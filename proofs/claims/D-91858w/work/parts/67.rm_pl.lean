set_option maxRecDepth 100000
theorem pl_lt {x y : Int32} {K nj : Nat} (hx : x = nI K) (hy : y = nI nj) (h : K ≤ nj) (c : ¬ x = y) : K < nj := by
  rcases Nat.lt_or_ge K nj with h1 | h1
  · exact h1
  · exact absurd (by rw [hx, hy, Nat.le_antisymm h h1]) c
theorem pl_eq {x y : Int32} {K nj : Nat} (hx : x = nI K) (hy : y = nI nj) (h : K + 1 = nj) : x + 1 = y := by
  rw [hx, hy, ← h]; exact (nI_succ _).symm
