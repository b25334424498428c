set_option maxRecDepth 100000
theorem pow2_16 {a b : Nat} (ha : a ≤ 8) (hb : b ≤ 8) : 2 ^ (a + b) ≤ 65536 :=
  Nat.le_trans (Nat.pow_le_pow_right (by decide) (show a + b ≤ 16 by omega)) (by decide)
