theorem fnd_k {u : Int32} {nN : Nat} (h : u = -1 ∨ ∃ j, j < nN ∧ u = nI j) (hne : ¬ u = -1) (hN : nN ≤ 9) : u = nI u.toNatClampNeg ∧ u.toNatClampNeg < 9 := by
  obtain ⟨j, hj, e⟩ := h.resolve_left hne
  have h1 : u.toNatClampNeg = j := by rw [e]; exact nI_clamp (by omega)
  exact ⟨by rw [h1]; exact e, by omega⟩
