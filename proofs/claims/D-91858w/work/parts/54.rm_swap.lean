set_option maxRecDepth 100000
theorem is12 {v : Int32} (h : ∃ a, v = nI a ∧ a < 12) : v = nI v.toNatClampNeg ∧ v.toNatClampNeg < 12 := by
  obtain ⟨a, rfl, h2⟩ := h
  rw [nI_clamp (by omega)]
  exact ⟨rfl, h2⟩
theorem c_swap {x on ot : Int32} (hx : ∃ a, x = nI a ∧ a < 12) (ho : (on = -1 ∧ ot = -1) ∨ ∃ a b, on = nI a ∧ a < 12 ∧ ot = nI b ∧ b < 12) : ∃ a, (if x = on then ot else if x = ot then on else x) = nI a ∧ a < 12 := by
  by_cases h1 : x = on
  · rw [if_pos h1]
    rcases ho with ⟨e1, e2⟩ | ⟨a, b, e1, l1, e2, l2⟩
    · obtain ⟨a, e, l⟩ := hx
      have := h1.symm.trans e
      rw [e1] at this
      exact absurd (nI_pos (n := a) (by omega)) (by rw [← this]; decide)
    · exact ⟨b, e2, l2⟩
  · rw [if_neg h1]
    by_cases h2 : x = ot
    · rw [if_pos h2]
      rcases ho with ⟨e1, e2⟩ | ⟨a, b, e1, l1, e2, l2⟩
      · obtain ⟨a, e, l⟩ := hx
        have := h2.symm.trans e
        rw [e2] at this
        exact absurd (nI_pos (n := a) (by omega)) (by rw [← this]; decide)
      · exact ⟨a, e1, l1⟩
    · rw [if_neg h2]; exact hx
