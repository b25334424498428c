set_option maxRecDepth 100000
theorem c_ruleWhy {x : Int32} (h : f_X1_ruleWhy x = 0) : x = nI x.toNatClampNeg ∧ 1 ≤ x.toNatClampNeg ∧ x.toNatClampNeg ≤ 5 := by
  have e : f_X1_ruleWhy x = if f_X1_in x 1 5 = 0 then 2 else 0 := rfl
  rw [e] at h
  by_cases h0 : f_X1_in x 1 5 = 0
  · rw [if_pos h0] at h; exact absurd h (by decide)
  · exact c_in15 h0
theorem ite_inr {α β : Type} {c : Prop} [Decidable c] {a b : α ⊕ β} (ha : ∃ Y, a = .inr Y) (hb : ∃ Y, b = .inr Y) : ∃ Y, (if c then a else b) = .inr Y := by
  by_cases h : c
  · rw [if_pos h]; exact ha
  · rw [if_neg h]; exact hb
theorem ruled_inr (UI : Nat → Int32) (UL : Nat → Int64) (QI : Nat → Int32) (QL : Nat → Int64) (J1 : Nat → Int32) (J0 : Nat → Int32) (now ore nP : Nat) (WI pr : Nat → Int32) (SI OI tn : Nat → Nat → Int32) (nS : Nat) : ∀ n i X, ∃ Y, f_X1_ruled_l20 UI UL QI QL J1 J0 now ore nP WI pr SI OI tn nS n i X = .inr Y := by
  intro n
  induction n with
  | zero => intro i X; exact ⟨X, rfl⟩
  | succ n ih =>
    intro i X
    rw [f_X1_ruled_l20]
    refine ite_inr ?_ ?_
    · exact ih _ _
    · exact ih _ _
theorem ruled_fst (r : Nat → Nat) (TI : Nat → Int32) (TL : Nat → Int64) (h0 h1 h2 h3 UI : Nat → Int32) (UL : Nat → Int64) (g0 g1 g2 g3 QI : Nat → Int32) (QL : Nat → Int64) (q0 q1 q2 q3 J1 J0 : Nat → Int32) (now ore nP nj : Nat) (WI pr : Nat → Int32) (SI OI tn : Nat → Nat → Int32) (nS : Nat) : (f_X1_ruled r TI TL h0 h1 h2 h3 UI UL g0 g1 g2 g3 QI QL q0 q1 q2 q3 J1 J0 now ore nP nj WI pr SI OI tn nS).1 = some (r 8) := by
  unfold f_X1_ruled
  dsimp only
  generalize hX : f_X1_ruled_l20 _ _ _ _ _ _ _ _ _ _ _ _ _ _ _ _ _ _ = z
  obtain ⟨Y, hY⟩ := ruled_inr UI UL QI QL J1 J0 now ore nP WI pr SI OI tn nS nj 0 _
  rw [← hX, hY]; rfl
