set_option maxRecDepth 100000
theorem gl_keep {mtn sv : Nat → Int32} {ore nS : Nat} (h5 : nS ≤ 5) (j : Nat) (hj : 24 ≤ j) (h33 : j ≠ 33) : itN (f_X8_goes_l2 mtn ore) nS sv j = sv j := by
  refine itN_pres (P := fun Y : Nat → Int32 => Y j = sv j) (N := nS) rfl (fun i Y hi hY => ?_) nS (Nat.le_refl _)
  simp only [f_X8_goes_l2, upd]
  rw [if_neg (by omega), if_neg (by omega), if_neg (by omega), if_neg (by omega)]
  exact hY
theorem gj_keep {MI mbr mnx mhd f : Nat → Int32} {ore nS : Nat} (h5 : nS ≤ 5) (j : Nat) (hj : 22 ≤ j) (h1 : j ≠ 29) (h2 : j ≠ 30) : f_X8_goes_j5 MI mbr mnx mhd ore nS f j = f j := by
  unfold f_X8_goes_j5
  split
  · exact mg_keep h5 j (by omega) h1 h2
  · exact md_keep h5 j hj
theorem go_keep {MI mpr mbr mnx mhd mtn sv : Nat → Int32} {ore nP now nS : Nat} (h5 : nS ≤ 5) (j : Nat) (hj : j = 25 ∨ j = 34 ∨ j = 35 ∨ j = 36) : f_X8_goes MI mpr mbr mnx mhd mtn sv ore nP now nS j = sv j := by
  rcases hj with rfl | rfl | rfl | rfl
  · show f_X8_goes_j5 MI mbr mnx mhd ore nS _ 25 = sv 25
    rw [gj_keep h5 25 (by decide) (by decide) (by decide)]
    exact gl_keep h5 25 (by decide) (by decide)
  · show f_X8_goes_j5 MI mbr mnx mhd ore nS _ 34 = sv 34
    rw [gj_keep h5 34 (by decide) (by decide) (by decide)]
    exact gl_keep h5 34 (by decide) (by decide)
  · show f_X8_goes_j5 MI mbr mnx mhd ore nS _ 35 = sv 35
    rw [gj_keep h5 35 (by decide) (by decide) (by decide)]
    exact gl_keep h5 35 (by decide) (by decide)
  · show f_X8_goes_j5 MI mbr mnx mhd ore nS _ 36 = sv 36
    rw [gj_keep h5 36 (by decide) (by decide) (by decide)]
    exact gl_keep h5 36 (by decide) (by decide)
theorem go_27 {MI mpr mbr mnx mhd mtn sv : Nat → Int32} {ore nP now nS : Nat} (h5 : nS ≤ 5) : f_X8_goes MI mpr mbr mnx mhd mtn sv ore nP now nS 27 = sv 27 + 1 := by
  show f_X8_goes_j5 MI mbr mnx mhd ore nS _ 27 + 1 = sv 27 + 1
  rw [gj_keep h5 27 (by decide) (by decide) (by decide)]
  show itN (f_X8_goes_l2 mtn ore) nS sv 27 + 1 = sv 27 + 1
  rw [gl_keep h5 27 (by decide) (by decide)]
