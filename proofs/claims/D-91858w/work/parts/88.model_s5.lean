set_option maxRecDepth 100000
/-! behind the first fault (sort 5) all stays so -/
theorem s5_wrongHere {I : Nat → Int32} {x y : Int32} (h : I 9 = 5) : (f_X8_wrongHere I x y).1 = 5 := by unfold f_X8_wrongHere; rw [if_pos h]; exact h
theorem s5_wrong {I : Nat → Int32} {x : Int32} (h : I 9 = 5) : (f_X8_wrong I x).1 = 5 := s5_wrongHere h
theorem s5_next {I : Nat → Int32} {L : Nat → Int64} {tp : Nat → Int32} {zj : Nat} (h : I 9 = 5) : (f_X8_next I L tp zj).2.1 = 5 := by unfold f_X8_next; rw [if_pos h]; exact h
theorem s5_needWord {I : Nat → Int32} {L : Nat → Int64} {tp : Nat → Int32} {zj wn : Nat} {wb : Nat → Int32} (h : I 9 = 5) : (f_X8_needWord I L tp zj wn wb).2.1 = 5 := by
  have h1 : (f_X8_needWord_j1 I (f_X8_isWord I L wn wb)).1 = 5 := by unfold f_X8_needWord_j1; split; exact s5_wrong h; exact h
  exact s5_next (I := upd (upd (upd I 9 (f_X8_needWord_j1 I (f_X8_isWord I L wn wb)).1) 13 _) 14 _) h1
theorem s5_readWhole {I : Nat → Int32} {L : Nat → Int64} {tp : Nat → Int32} {x y : Int32} {zj : Nat} (h : I 9 = 5) : (f_X8_readWhole I L tp x y zj).2.2.1 = 5 := by
  have h1 : (f_X8_readWhole_j1 I x y).1 = 5 := by
    unfold f_X8_readWhole_j1
    rw [if_neg (by rw [h]; decide)]
    exact s5_wrong h
  exact s5_next (I := upd (upd (upd I 9 (f_X8_readWhole_j1 I x y).1) 13 _) 14 _) h1
theorem s5_once {I : Nat → Int32} {L : Nat → Int64} {tp : Nat → Int32} {x : Int32} {zj : Nat} (h : I 9 = 5) : (f_X8_once I L tp x zj).2.1 = 5 := by
  have h1 : (f_X8_once_j1 I x).1 = 5 := by unfold f_X8_once_j1; split; exact h; exact s5_wrong h
  exact s5_next (I := upd (upd (upd I 9 (f_X8_once_j1 I x).1) 13 _) 14 _) h1
/-- a name's place -/
theorem fnd_or {nN : Nat} {mnm : Nat → Int64} {wd : Int64} : f_X13_find mnm wd nN = -1 ∨ ∃ j, j < nN ∧ f_X13_find mnm wd nN = nI j := by
  have h : ∀ n i, i + n = nN → (∃ j, j < nN ∧ f_X13_find_l2 mnm wd n i () = .inl (nI j)) ∨ f_X13_find_l2 mnm wd n i () = .inr () := by
    intro n
    induction n with
    | zero => intro i _; exact Or.inr rfl
    | succ n ih =>
      intro i hi
      rw [f_X13_find_l2]
      split
      · exact Or.inl ⟨i, by omega, rfl⟩
      · exact ih (i + 1) (by omega)
  unfold f_X13_find
  rcases h nN 0 (by omega) with ⟨j, hj, e⟩ | e
  · rw [e]; exact Or.inr ⟨j, hj, rfl⟩
  · rw [e]; exact Or.inl rfl
/-- the counts of a mill that is being read -/
def mInv (J : Nat → Int32) (so : Int32) : Prop := ∃ nP nS nO nN : Nat, J 7 = nI nP ∧ J 8 = nI nS ∧ J 9 = nI nO ∧ J 10 = nI nN ∧ nP ≤ 6 ∧ nS ≤ 5 ∧ nO ≤ 4 ∧ nN ≤ 9 ∧ (so = 5 ∨ nN = nS + nO)
theorem nI_ne {a b : Nat} {x : Int32} (h : x = nI a) (ha : a < 2 ^ 31) (hb : b < 2 ^ 31) (hn : ¬ x = nI b) : a ≠ b := fun e => hn (by rw [h, e])
