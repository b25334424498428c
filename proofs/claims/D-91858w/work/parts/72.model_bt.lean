set_option maxRecDepth 100000
theorem nx_and (a b : Nat) : nI a &&& nI b = nI (a &&& b) := by
  apply Int32.toBitVec_inj.1
  show BitVec.ofNat 32 a &&& BitVec.ofNat 32 b = BitVec.ofNat 32 (a &&& b)
  apply BitVec.eq_of_getLsbD_eq
  intro i hi
  simp [hi]
theorem bt_step {L : Int32} {n : Nat} (hv : ∃ m, L = nI m ∧ m < n + 1 ∧ m < 2 ^ 31) (c : ¬ L = 0) : ∃ m, L &&& (L - 1) = nI m ∧ m < n ∧ m < 2 ^ 31 := by
  obtain ⟨m, hm, h1, h2⟩ := hv
  have h0 : m ≠ 0 := by intro h; subst h; exact c hm
  have h3 : L - 1 = nI (m - 1) := xnsub hm (show (1 : Int32) = nI 1 by decide) (by omega)
  have h4 : m &&& (m - 1) ≤ m - 1 := Nat.and_le_right
  exact ⟨m &&& (m - 1), by rw [h3, hm, nx_and], by omega, by omega⟩
theorem sf_ge {a : Int32} {r k : Nat} (ha : a = nI r) (hr : r < 2 ^ 31) (c : a ≤ nI k) : r ≤ k ∨ 2 ^ 31 ≤ k := by
  rcases Nat.lt_or_ge k r with h | h
  · exact absurd c (xle_f ha rfl h hr)
  · exact Or.inl h
theorem sf_lt {a : Int32} {r k : Nat} (ha : a = nI r) (hk : k < 2 ^ 31) (c : ¬ a ≤ nI k) : k < r := by
  rcases Nat.lt_or_ge k r with h | h
  · exact h
  · exact absurd (xle_t ha rfl h hk) c
theorem shl2' : ∀ n, n ≤ 16 → (1 : Int32) <<< (nI n &&& 31) = nI (2 ^ n) := by decide +kernel
theorem shl2 {n : Int32} {nj : Nat} (hn : n = nI nj) (h : nj ≤ 16) : (1 : Int32) <<< (n &&& 31) = nI (2 ^ nj) := by rw [hn]; exact shl2' nj h
