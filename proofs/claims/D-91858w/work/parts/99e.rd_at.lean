set_option maxRecDepth 100000
theorem se_in {I tp : Nat → Int32} {x : Int32} {xj zj : Nat} (h : ¬ f_X2_see I tp x xj = -1) (hx : x = nI xj) (hz : I 3 = nI zj) (hb : xj < 2 ^ 31) : xj < zj := by
  rcases Nat.lt_or_ge xj zj with h1 | h1
  · exact h1
  · refine absurd ?_ h
    show f_X2_see_j1 I tp x xj = -1
    unfold f_X2_see_j1
    rw [if_pos (xle_t hz hx h1 hb)]
theorem sm_ne {u : Int32} (h : ¬ f_X2_isSmall u = 0) : ¬ u = -1 := by intro h1; rw [h1] at h; exact h (by decide)
theorem dg_ne {u : Int32} (h : ¬ f_X2_isDigit u = 0) : ¬ u = -1 := by intro h1; rw [h1] at h; exact h (by decide)
theorem in_bd {v lo hi : Int32} (h : ¬ f_X1_in v lo hi = 0) : lo ≤ v ∧ v ≤ hi := by
  rcases Classical.em (v < lo) with h1 | h1
  · refine absurd ?_ h
    unfold f_X1_in
    simp only [f_X1_in_j1, if_pos h1]
  · rcases Classical.em (hi < v) with h2 | h2
    · refine absurd ?_ h
      unfold f_X1_in
      simp only [f_X1_in_j1, if_neg h1, if_pos h2]
    · exact ⟨Int32.not_lt.mp h1, Int32.not_lt.mp h2⟩
theorem sm_nat {u : Int32} (h : ¬ f_X2_isSmall u = 0) : ∃ m : Nat, u = nI m ∧ 97 ≤ m ∧ m ≤ 122 := by
  obtain ⟨h1, h2⟩ := in_bd (v := u) (lo := 97) (hi := 122) h
  have h3 := Int32.le_iff_toInt_le.mp h1
  have h4 := Int32.le_iff_toInt_le.mp h2
  have e1 : (97 : Int32).toInt = 97 := by decide
  have e2 : (122 : Int32).toInt = 122 := by decide
  rw [e1] at h3
  rw [e2] at h4
  have e0 : (0 : Int32).toInt = 0 := by decide
  have h5 : u.toInt = (u.toNatClampNeg : Int) := by show u.toInt = ((u.toInt.toNat : Nat) : Int); omega
  refine ⟨u.toNatClampNeg, ?_, by omega, by omega⟩
  apply Int32.toInt_inj.mp
  rw [h5]
  have h6 : (nI u.toNatClampNeg).toInt = (((nI u.toNatClampNeg).toNatClampNeg : Nat) : Int) := by
    have h7 : ¬ nI u.toNatClampNeg < 0 := nI_pos (by omega)
    have h8 := Int32.le_iff_toInt_le.mp (Int32.not_lt.mp h7)
    have : (0 : Int32).toInt = 0 := by decide
    show (nI u.toNatClampNeg).toInt = (((nI u.toNatClampNeg).toInt.toNat : Nat) : Int)
    omega
  rw [h6, nI_clamp (by omega)]
theorem sm_le {u : Int32} (h : ¬ f_X2_isSmall u = 0) : vp_nar .char ((u.toUInt32 % 65536).toInt32) ≤ 255 := by
  obtain ⟨m, rfl, h1, h2⟩ := sm_nat h
  obtain ⟨j, rfl⟩ : ∃ j, m = 97 + j := ⟨m - 97, by omega⟩
  have hj : j < 26 := by omega
  clear h1 h2 h
  revert hj
  revert j
  decide
/-- the letters so far -/
def ltOK (lf : Nat → Int32) (n : Nat) : Prop := ∀ j, j < n → j < 8 → lf j ≤ 255
theorem ltOK.put {lf : Nat → Int32} {n : Nat} {v : Int32} (h : ltOK lf n) (hv : v ≤ 255) : ltOK (upd lf n v) (n + 1) := by
  intro j h1 h2
  unfold upd
  split
  · exact hv
  · exact h j (by omega) h2
theorem ltOK.skip {lf : Nat → Int32} {n : Nat} (h : ltOK lf n) (hn : 8 ≤ n) : ltOK lf (n + 1) := fun j h1 h2 => h j (by omega) h2
/-- a world that has two cells more, or hasn't -/
theorem optP {D : va_G} {H : Heap} {t : Int32} {base o : va_W} (h : t = 2) (hP : va_P D vwCl (base ++ o) H) : va_P D vwCl (base ++ (if t = 2 then o else [])) H := by rw [if_pos h]; exact hP
theorem optN {D : va_G} {H : Heap} {t : Int32} {base o : va_W} (h : ¬ t = 2) (hP : va_P D vwCl base H) : va_P D vwCl (base ++ (if t = 2 then o else [])) H := by rw [if_neg h, List.append_nil]; exact hP
theorem optDP {A : Nat → Prop} {t : Int32} {base o : va_W} (h : t = 2) (hD : va_D A (base ++ o)) : va_D A (base ++ (if t = 2 then o else [])) := by rw [if_pos h]; exact hD
theorem optDN {A : Nat → Prop} {t : Int32} {base o : va_W} (h : ¬ t = 2) (hD : va_D A base) : va_D A (base ++ (if t = 2 then o else [])) := by rw [if_neg h, List.append_nil]; exact hD
theorem rd_st {zj n : Nat} {a k : Int32} (h : atz zj a) (hm : zj - a.toNatClampNeg < n + 1) (hk : k.toNatClampNeg ≤ a.toNatClampNeg) (hlt : a.toNatClampNeg < zj) (hz : zj ≤ 700) : atz zj (a + 1) ∧ zj - (a + 1).toNatClampNeg < n ∧ k.toNatClampNeg ≤ (a + 1).toNatClampNeg := by
  have h1 := atz.step ⟨h, hm⟩ hlt hz
  have h2 := h.inc hlt hz
  exact ⟨h1.1, h1.2, by omega⟩
theorem rd_stL {zj n : Nat} {a k v : Int32} {lf : Nat → Int32} (h : atz zj a) (hm : zj - a.toNatClampNeg < n + 1) (hk : k.toNatClampNeg ≤ a.toNatClampNeg) (ho : ltOK lf (a.toNatClampNeg - k.toNatClampNeg)) (hlt : a.toNatClampNeg < zj) (hz : zj ≤ 700) (hv : v ≤ 255) : atz zj (a + 1) ∧ zj - (a + 1).toNatClampNeg < n ∧ k.toNatClampNeg ≤ (a + 1).toNatClampNeg ∧ ltOK (upd lf (a.toNatClampNeg - k.toNatClampNeg) v) ((a + 1).toNatClampNeg - k.toNatClampNeg) := by
  have h1 := rd_st h hm hk hlt hz
  have h2 := h.inc hlt hz
  refine ⟨h1.1, h1.2.1, h1.2.2, ?_⟩
  rw [show (a + 1).toNatClampNeg - k.toNatClampNeg = (a.toNatClampNeg - k.toNatClampNeg) + 1 by omega]
  exact ho.put hv
theorem rd_stS {zj n : Nat} {a k : Int32} {lf : Nat → Int32} (h : atz zj a) (hm : zj - a.toNatClampNeg < n + 1) (hk : k.toNatClampNeg ≤ a.toNatClampNeg) (ho : ltOK lf (a.toNatClampNeg - k.toNatClampNeg)) (hlt : a.toNatClampNeg < zj) (hz : zj ≤ 700) (h8 : 8 ≤ a.toNatClampNeg - k.toNatClampNeg) : atz zj (a + 1) ∧ zj - (a + 1).toNatClampNeg < n ∧ k.toNatClampNeg ≤ (a + 1).toNatClampNeg ∧ ltOK lf ((a + 1).toNatClampNeg - k.toNatClampNeg) := by
  have h1 := rd_st h hm hk hlt hz
  have h2 := h.inc hlt hz
  refine ⟨h1.1, h1.2.1, h1.2.2, ?_⟩
  rw [show (a + 1).toNatClampNeg - k.toNatClampNeg = (a.toNatClampNeg - k.toNatClampNeg) + 1 by omega]
  exact ho.skip h8
theorem rd_n1 {I tp : Nat → Int32} {a k : Int32} {zj : Nat} (ha : atz zj a) (hk : atz zj k) (hle : k.toNatClampNeg ≤ a.toNatClampNeg) (h0 : f_X2_isSmall (f_X2_see I tp a a.toNatClampNeg) = 0) (h1 : ¬ f_X2_isSmall (f_X2_see I tp k k.toNatClampNeg) = 0) : 1 ≤ a.toNatClampNeg - k.toNatClampNeg := by
  rcases Nat.eq_zero_or_pos (a.toNatClampNeg - k.toNatClampNeg) with h | h
  · have e1 : a.toNatClampNeg = k.toNatClampNeg := by omega
    have e2 : a = k := by rw [ha.1, hk.1, e1]
    rw [e2] at h0
    exact absurd h0 h1
  · exact h
