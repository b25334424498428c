set_option maxRecDepth 100000
theorem c_in124 {v : Int32} (h : ¬ f_X1_in v 1 24 = 0) : v = nI v.toNatClampNeg ∧ 1 ≤ v.toNatClampNeg ∧ v.toNatClampNeg ≤ 24 := m_in124 h
theorem c_in15 {v : Int32} (h : ¬ f_X1_in v 1 5 = 0) : v = nI v.toNatClampNeg ∧ 1 ≤ v.toNatClampNeg ∧ v.toNatClampNeg ≤ 5 := m_in15 h
theorem c_isLook {WI : Nat → Int32} {x y : Int32} {nS : Nat} (hnS : WI 3 = nI nS) (h5 : nS ≤ 5) (h : ¬ f_X1_isLook x y WI = 0) : (x = nI x.toNatClampNeg ∧ x.toNatClampNeg ≤ 11) ∧ y = nI y.toNatClampNeg ∧ y.toNatClampNeg ≤ nS + 1 := by
  have e : f_X1_isLook x y WI = if f_X1_in x 0 11 = 0 then 0 else if f_X1_in y 0 (WI 3 + 1) = 0 then 0 else 1 := rfl
  rw [e] at h
  by_cases h0 : f_X1_in x 0 11 = 0
  · rw [if_pos h0] at h; exact absurd rfl h
  · rw [if_neg h0] at h
    by_cases h1 : f_X1_in y 0 (WI 3 + 1) = 0
    · rw [if_pos h1] at h; exact absurd rfl h
    · exact ⟨c_in0 xl_11 (by decide) h0, c_in0 (xnadd hnS xl_1) (by omega) h1⟩
