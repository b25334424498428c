set_option maxRecDepth 100000
theorem mInv.imp {J : Nat → Int32} {a b : Int32} (h : mInv J a) (hab : a = 5 → b = 5) : mInv J b := by
  obtain ⟨nP, nS, nO, nN, h1, h2, h3, h4, h5, h6, h7, h8, h9⟩ := h
  exact ⟨nP, nS, nO, nN, h1, h2, h3, h4, h5, h6, h7, h8, h9.imp_left hab⟩
theorem mInv.nat {J : Nat → Int32} {so : Int32} (h : mInv J so) : J 7 = nI (J 7).toNatClampNeg ∧ J 8 = nI (J 8).toNatClampNeg ∧ J 9 = nI (J 9).toNatClampNeg ∧ J 10 = nI (J 10).toNatClampNeg ∧ (J 7).toNatClampNeg ≤ 6 ∧ (J 8).toNatClampNeg ≤ 5 ∧ (J 9).toNatClampNeg ≤ 4 ∧ (J 10).toNatClampNeg ≤ 9 ∧ (so = 5 ∨ (J 10).toNatClampNeg = (J 8).toNatClampNeg + (J 9).toNatClampNeg) := by
  obtain ⟨nP, nS, nO, nN, h1, h2, h3, h4, h5, h6, h7, h8, h9⟩ := h
  have e1 : (J 7).toNatClampNeg = nP := by rw [h1]; exact nI_clamp (by omega)
  have e2 : (J 8).toNatClampNeg = nS := by rw [h2]; exact nI_clamp (by omega)
  have e3 : (J 9).toNatClampNeg = nO := by rw [h3]; exact nI_clamp (by omega)
  have e4 : (J 10).toNatClampNeg = nN := by rw [h4]; exact nI_clamp (by omega)
  rw [e1, e2, e3, e4]
  exact ⟨h1, h2, h3, h4, h5, h6, h7, h8, h9⟩
theorem ml_0 {x : Int32} {z a n : Nat} (h : ¬ x = 0) (hm : z - a + 1 < n + 1 ∨ (x = 0 ∧ 0 < n + 1)) : 0 < n := by
  rcases hm with h1 | h1
  · omega
  · exact absurd h1.1 h
theorem ml_1 {x a b c so : Int32} {z n : Nat} (h : ¬ x = 0) (hm : z - a.toNatClampNeg + 1 < n + 1 ∨ (x = 0 ∧ 0 < n + 1)) (ha : atz z a) (hz : z ≤ 700) (h1 : adv a b so) (h2 : b.toNatClampNeg ≤ c.toNatClampNeg) (hc : atz z c) (h4 : so = 4) : z - c.toNatClampNeg + 1 < n := by
  rcases hm with h5 | h5
  · have := h1.2 h4; have := hc.2; omega
  · exact absurd h5.1 h
