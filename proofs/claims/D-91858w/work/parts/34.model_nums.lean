set_option maxRecDepth 100000
/-! numbers out of tests -/
theorem xnr {v A : Int32} {a : Nat} (hA : A = nI a) (ha : a < 2 ^ 31) (h0 : ¬ v < 0) (h1 : ¬ A < v) : v = nI v.toNatClampNeg ∧ v.toNatClampNeg ≤ a := by
  obtain ⟨j, hj, rfl⟩ := nI_of h0
  rw [nI_clamp hj]
  refine ⟨rfl, ?_⟩
  rw [hA] at h1
  rcases Nat.lt_or_ge a j with h | h
  · exact absurd (nI_lt h hj) h1
  · exact h
theorem xnrl {v A : Int32} {a : Nat} (hA : A = nI a) (ha : a < 2 ^ 31) (h0 : ¬ v < 0) (h1 : ¬ A ≤ v) : v = nI v.toNatClampNeg ∧ v.toNatClampNeg < a := by
  obtain ⟨j, hj, rfl⟩ := nI_of h0
  rw [nI_clamp hj]
  refine ⟨rfl, ?_⟩
  rw [hA] at h1
  rcases Nat.lt_or_ge j a with h | h
  · exact h
  · exact absurd (nI_le h hj) h1
theorem m_in0 {v A : Int32} {a : Nat} (hA : A = nI a) (ha : a < 2 ^ 31) (h : ¬ f_X8_in v 0 A = 0) : v = nI v.toNatClampNeg ∧ v.toNatClampNeg ≤ a := by
  have e : f_X8_in v 0 A = if v < 0 then 0 else if A < v then 0 else 1 := rfl
  rw [e] at h
  by_cases h0 : v < 0
  · rw [if_pos h0] at h; exact absurd rfl h
  · rw [if_neg h0] at h
    by_cases h1 : A < v
    · rw [if_pos h1] at h; exact absurd rfl h
    · exact xnr hA ha h0 h1
theorem c_in0 {v A : Int32} {a : Nat} (hA : A = nI a) (ha : a < 2 ^ 31) (h : ¬ f_X1_in v 0 A = 0) : v = nI v.toNatClampNeg ∧ v.toNatClampNeg ≤ a := m_in0 hA ha h
theorem m_isSize {MI : Nat → Int32} {x : Int32} {nS : Nat} (hmS : MI 8 = nI nS) (h5 : nS ≤ 5) (h : ¬ f_X8_isSize MI x = 0) : x = nI x.toNatClampNeg ∧ x.toNatClampNeg < nS := by
  have e : f_X8_isSize MI x = if x < 0 then 0 else if MI 8 ≤ x then 0 else 1 := rfl
  rw [e] at h
  by_cases h0 : x < 0
  · rw [if_pos h0] at h; exact absurd rfl h
  · rw [if_neg h0] at h
    by_cases h1 : MI 8 ≤ x
    · rw [if_pos h1] at h; exact absurd rfl h
    · exact xnrl hmS (by omega) h0 h1
theorem xite {c : Prop} [Decidable c] {x y : Int32} {a b : Nat} (h1 : x = nI a) (h2 : y = nI b) : (if c then x else y) = nI (if c then a else b) := by
  by_cases h : c
  · rw [if_pos h, if_pos h]; exact h1
  · rw [if_neg h, if_neg h]; exact h2
