set_option maxRecDepth 100000
theorem af_nat {MI mpr mbr mnx mhd mtn tw pR pW pO qH qW qV qO fi : Nat → Int32} {po : Nat → Nat} {sn : Nat} {qn : Nat → Nat} {nP nS : Nat} {on ot : Int32} {u : Int32 × (Nat → Int32) × (Nat → Int32)} (h : u = f_X8_allFits MI mpr mbr mnx mhd mtn tw pR pW pO qH qW qV qO fi po sn qn nP nS on ot) : u.1 = nI u.1.toNatClampNeg ∧ u.1.toNatClampNeg ≤ 100 := by
  refine cnt.nat (show cnt u.1 100 from ?_) (by decide)
  rw [h]
  show cnt (itN (f_X8_allFits_l5 MI mpr mbr mnx mhd mtn pR pW pO qH qW qV qO po sn qn nP nS on ot) 100 (0, tw, fi)).1 100
  refine itN_inv (P := fun i (Y : Int32 × (Nat → Int32) × (Nat → Int32)) => cnt Y.1 i) (N := 100) cnt.zero (fun i Y hi hY => ?_) 100 (Nat.le_refl _)
  unfold f_X8_allFits_l5
  dsimp only
  unfold f_X8_allFits_j4
  split
  · exact hY.same
  · exact hY.inc
/-- a count that isn't 0 -/
theorem cnt_pos {y : Int32} (h : y = nI y.toNatClampNeg) (h0 : ¬ y = 0) : 1 ≤ y.toNatClampNeg := by
  rcases Nat.eq_zero_or_pos y.toNatClampNeg with e | e
  · rw [e] at h; exact absurd (h.trans (by decide)) h0
  · exact e
theorem m_isWhat {MI : Nat → Int32} {x y : Int32} {nS : Nat} (hmS : MI 8 = nI nS) (h5 : nS ≤ 5) (h : ¬ f_X8_isWhat MI x y = 0) : (x = nI x.toNatClampNeg ∧ x.toNatClampNeg ≤ 11) ∧ y = nI y.toNatClampNeg ∧ y.toNatClampNeg ≤ nS + 1 := by
  have e : f_X8_isWhat MI x y = if f_X8_in x 0 11 = 0 then 0 else if f_X8_in y 0 (MI 8 + 1) = 0 then 0 else 1 := rfl
  rw [e] at h
  by_cases h0 : f_X8_in x 0 11 = 0
  · rw [if_pos h0] at h; exact absurd rfl h
  · rw [if_neg h0] at h
    by_cases h1 : f_X8_in y 0 (MI 8 + 1) = 0
    · rw [if_pos h1] at h; exact absurd rfl h
    · exact ⟨m_in0 xl_11 (by decide) h0, m_in0 (xnadd hmS xl_1) (by omega) h1⟩
