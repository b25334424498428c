set_option maxRecDepth 100000
theorem m_in124 {v : Int32} (h : ¬ f_X8_in v 1 24 = 0) : v = nI v.toNatClampNeg ∧ 1 ≤ v.toNatClampNeg ∧ v.toNatClampNeg ≤ 24 := by
  have e : f_X8_in v 1 24 = if v < 1 then 0 else if 24 < v then 0 else 1 := rfl
  rw [e] at h
  by_cases h0 : v < 1
  · rw [if_pos h0] at h; exact absurd rfl h
  · rw [if_neg h0] at h
    by_cases h1 : (24 : Int32) < v
    · rw [if_pos h1] at h; exact absurd rfl h
    · have h2 : ¬ v < 0 := fun z => h0 (Int32.lt_trans z (by decide))
      obtain ⟨a, b⟩ := xnr xl_24 (by decide) h2 h1
      refine ⟨a, ?_, b⟩
      rcases Nat.eq_zero_or_pos v.toNatClampNeg with z | z
      · rw [z] at a; rw [a] at h0; exact absurd (by decide) h0
      · exact z
theorem m_led {x S : Int32} {n : Nat} (hS : S = nI n) (hn : n < 2 ^ 31) (h : (if x < 0 then 1 else if x < S then 0 else (1 : Int32)) ≤ 0) : x = nI x.toNatClampNeg ∧ x.toNatClampNeg < n := by
  by_cases h0 : x < 0
  · rw [if_pos h0] at h; exact absurd h (by decide)
  · rw [if_neg h0] at h
    by_cases h1 : x < S
    · refine xnrl hS hn h0 (fun z => ?_)
      exact Int32.lt_irrefl (Int32.lt_of_lt_of_le h1 z)
    · rw [if_neg h1] at h; exact absurd h (by decide)
/-- a sum that isn't over the bound -/
theorem m_room {a x : Int32} {n xj : Nat} (ha : a = nI n) (hx : x = nI xj) (h1 : n < 2 ^ 20) (h2 : xj < 2 ^ 20) (h : a + x ≤ 240) : n + xj ≤ 240 := by
  rcases Nat.lt_or_ge 240 (n + xj) with z | z
  · exact absurd h (xle_f (xnadd ha hx) xl_240 z (by omega))
  · exact z
theorem m_ne8 {a : Int32} {n : Nat} (ha : a = nI n) (h8 : n ≤ 8) (h : ¬ a = 8) : n < 8 := by
  rcases Nat.lt_or_ge n 8 with z | z
  · exact z
  · exact absurd (by rw [ha, show n = 8 by omega]; decide) h
