set_option maxRecDepth 100000
theorem atz.up {z : Nat} {x : Int32} (hv : atz z x) (hlt : x.toNatClampNeg < z) (hz : z ≤ 700) : atz z (x + 1) :=
  (atz.step (n := z - x.toNatClampNeg) ⟨hv, by omega⟩ hlt hz).1
theorem nx9 {I tp : Nat → Int32} {zj : Nat} (hzj : I 7 = nI zj) (hz7 : zj ≤ 700) : ∀ n X, atz zj X → atz zj (f_X8_next_l9 I tp n X) := by
  intro n
  induction n with
  | zero => intro X h; exact h
  | succ n ih =>
    intro X h
    rw [f_X8_next_l9]
    dsimp only
    by_cases c : f_X8_byteAt (upd I 8 X) tp X X.toNatClampNeg = 32
    · rw [if_pos c]
      exact ih _ (h.up (ba_in (e32_ne c) h.1 hzj (by have := h.2; omega)) hz7)
    · rw [if_neg c]; exact h
theorem nx89 {I tp : Nat → Int32} {zj : Nat} {Y2 : Int32} (hzj : I 7 = nI zj) (hz7 : zj ≤ 700) : ∀ n X, atz zj X.2.1 → atz zj (f_X8_next_l89 I tp Y2 n X).2.1 := by
  intro n
  induction n with
  | zero => intro X h; exact h
  | succ n ih =>
    intro X h
    rw [f_X8_next_l89]
    dsimp only
    generalize hu : f_X8_byteAt _ tp X.2.1 X.2.1.toNatClampNeg = u
    by_cases c : f_X8_isLetter u = 0
    · rw [if_pos c]; exact h
    · rw [if_neg c]
      exact ih _ (h.up (ba_in (I := upd (upd (upd (upd I 10 Y2) 9 0) 11 0) 8 X.2.1) (tp := tp) (by rw [hu]; exact le_ne c) h.1 hzj (by have := h.2; omega)) hz7)
theorem nx178 {I tp : Nat → Int32} {zj : Nat} {Y2 : Int32} (hzj : I 7 = nI zj) (hz7 : zj ≤ 700) : ∀ n X, atz zj X.2.1 → atz zj (f_X8_next_l178 I tp Y2 n X).2.1 := by
  intro n
  induction n with
  | zero => intro X h; exact h
  | succ n ih =>
    intro X h
    rw [f_X8_next_l178]
    dsimp only
    generalize hu : f_X8_byteAt _ tp X.2.1 X.2.1.toNatClampNeg = u
    by_cases c : f_X8_isDigit u = 0
    · rw [if_pos c]; exact h
    · rw [if_neg c]
      exact ih _ (h.up (ba_in (I := upd (upd (upd (upd (upd I 10 Y2) 9 0) 11 0) 8 X.2.1) 12 X.2.2) (tp := tp) (by rw [hu]; exact di_ne c) h.1 hzj (by have := h.2; omega)) hz7)
theorem nx_at {I : Nat → Int32} {L : Nat → Int64} {tp : Nat → Int32} {zj : Nat} (hzj : I 7 = nI zj) (hz7 : zj ≤ 700) (h : atz zj (I 8)) : atz zj (f_X8_next I L tp zj).1 := by
  unfold f_X8_next
  by_cases c : I 9 = 5
  · rw [if_pos c]; exact h
  · rw [if_neg c]
    dsimp only
    have hy := nx9 (tp := tp) hzj hz7 (zj + 1) _ h
    generalize f_X8_next_l9 I tp (zj + 1) (I 8) = Y2 at hy ⊢
    generalize hu : f_X8_byteAt _ tp Y2 Y2.toNatClampNeg = u
    have hin : ¬ u = -1 → Y2.toNatClampNeg < zj := fun hne => ba_in (I := upd (upd (upd (upd I 8 Y2) 10 Y2) 9 0) 11 0) (tp := tp) (by rw [hu]; exact hne) hy.1 hzj (by have := hy.2; omega)
    unfold f_X8_next_j17
    by_cases c1 : u = -1
    · rw [if_pos c1]; exact hy
    · rw [if_neg c1]
      dsimp only
      split
      · split
        · split
          · exact hy.up (hin c1) hz7
          · split
            · exact hy.up (hin c1) hz7
            · exact hy
        · split
          · exact nx178 hzj hz7 _ _ hy
          · exact nx178 hzj hz7 _ _ hy
      · split
        · exact nx89 hzj hz7 _ _ hy
        · exact nx89 hzj hz7 _ _ hy
