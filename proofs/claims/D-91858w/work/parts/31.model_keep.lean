set_option maxRecDepth 100000
/-! what an hour's parts leave alone -/
theorem md_keep {sv : Nat → Int32} {nS : Nat} (hS5 : nS ≤ 5) (j : Nat) (hj : 22 ≤ j) : f_X8_digs sv nS j = sv j := by
  show itN f_X8_digs_l2 nS sv j = sv j
  refine itN_pres (P := fun Y : Nat → Int32 => Y j = sv j) (N := nS) rfl (fun i Y hi hY => ?_) nS (Nat.le_refl _)
  simp only [f_X8_digs_l2, upd]
  rw [if_neg (by omega), if_neg (by omega)]
  exact hY
theorem mg_keep {MI mbr mnx mhd sv : Nat → Int32} {ore nS : Nat} (hS5 : nS ≤ 5) (j : Nat) (hj : 20 ≤ j) (h1 : j ≠ 29) (h2 : j ≠ 30) : f_X8_grinds MI mbr mnx mhd sv ore nS j = sv j := by
  show itN (f_X8_grinds_l153 MI) nS (itD (f_X8_grinds_l46 MI mbr mnx nS) (nS - 1) (upd (upd sv 29 _) 30 _)) j = sv j
  refine itN_pres (P := fun Y : Nat → Int32 => Y j = sv j) (N := nS) ?_ (fun i Y hi hY => ?_) nS (Nat.le_refl _)
  · refine itD_pres (P := fun Y : Nat → Int32 => Y j = sv j) (N := nS - 1) (fun i Y hi hY => ?_) (nS - 1) _ (Nat.le_refl _) ?_
    · have hz : (if i + 2 < nS then i + 2 else i + 1) ≤ 5 := by split <;> omega
      simp only [f_X8_grinds_l46]
      generalize (if i + 2 < nS then i + 2 else i + 1) = z at hz ⊢
      simp only [upd]
      rw [if_neg (by omega), if_neg (by omega), if_neg (by omega)]
      exact hY
    · simp only [upd]
      rw [if_neg h2, if_neg h1]
  · simp only [f_X8_grinds_l153, upd]
    rw [if_neg (by omega), if_neg (by omega), if_neg (by omega), if_neg (by omega)]
    exact hY
