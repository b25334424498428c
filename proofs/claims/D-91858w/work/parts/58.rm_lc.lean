set_option maxRecDepth 100000
theorem xlc_self (x : Int64) : lg_cmp x x = 0 := by
  unfold lg_cmp
  simp
