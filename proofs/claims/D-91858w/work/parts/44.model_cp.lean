set_option maxRecDepth 100000
theorem cp_n {sv : Nat → Int32} : ∀ (n : Nat) (tw : Nat → Int32) (j : Nat), j < n → itN (f_X8_copies_l2 sv) n tw j = sv j
  | 0, _, _, h => absurd h (Nat.not_lt_zero _)
  | n + 1, tw, j, h => by
    show upd (itN (f_X8_copies_l2 sv) n tw) n (sv n) j = sv j
    by_cases e : j = n
    · rw [e]; exact pk_us
    · rw [pk_un e]; exact cp_n n tw j (by omega)
theorem cp_at {sv tw : Nat → Int32} (j : Nat) (hj : j < 37) : f_X8_copies sv tw j = sv j := cp_n 37 tw j hj
theorem m_in15 {v : Int32} (h : ¬ f_X8_in v 1 5 = 0) : v = nI v.toNatClampNeg ∧ 1 ≤ v.toNatClampNeg ∧ v.toNatClampNeg ≤ 5 := by
  have e : f_X8_in v 1 5 = if v < 1 then 0 else if 5 < v then 0 else 1 := rfl
  rw [e] at h
  by_cases h0 : v < 1
  · rw [if_pos h0] at h; exact absurd rfl h
  · rw [if_neg h0] at h
    by_cases h1 : (5 : Int32) < v
    · rw [if_pos h1] at h; exact absurd rfl h
    · have h2 : ¬ v < 0 := fun z => h0 (Int32.lt_trans z (by decide))
      obtain ⟨a, b⟩ := xnr xl_5 (by decide) h2 h1
      refine ⟨a, ?_, b⟩
      rcases Nat.eq_zero_or_pos v.toNatClampNeg with z | z
      · rw [z] at a; rw [a] at h0; exact absurd (by decide) h0
      · exact z
