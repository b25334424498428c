set_option maxRecDepth 100000
theorem len_eq (wn : Nat) : f_J3_length wn = nI wn := by
  show (nI wn) >>> ((0 : Int32) &&& 31) = nI wn
  rw [show ((0 : Int32) &&& 31) = 0 from rfl]
  apply Int32.toBitVec_inj.mp
  simp
