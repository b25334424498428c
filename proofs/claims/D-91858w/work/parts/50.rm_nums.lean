set_option maxRecDepth 100000
theorem c_in_pos {v S : Int32} {n : Nat} (hS : S = nI n) (h : ¬ f_X1_in v 0 (S - 1) = 0) : 1 ≤ n := by
  have e : f_X1_in v 0 (S - 1) = if v < 0 then 0 else if S - 1 < v then 0 else 1 := rfl
  rw [e] at h
  by_cases h0 : v < 0
  · rw [if_pos h0] at h; exact absurd rfl h
  · rw [if_neg h0] at h
    by_cases h1 : S - 1 < v
    · rw [if_pos h1] at h; exact absurd rfl h
    · rcases Nat.eq_zero_or_pos n with z | z
      · subst z
        rw [hS] at h1
        exact absurd (Int32.lt_of_lt_of_le (show nI 0 - 1 < 0 by decide) (Int32.not_lt.mp h0)) h1
      · exact z
