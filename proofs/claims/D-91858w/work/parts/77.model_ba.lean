set_option maxRecDepth 100000
theorem ba_lt {k z : Int32} {a b : Nat} (hk : k = nI a) (hz : z = nI b) (ha : a < 2 ^ 31) (c : ¬ z ≤ k) : a < b := by
  rcases Nat.lt_or_ge a b with h | h
  · exact h
  · exact absurd (xle_t hz hk h ha) c
