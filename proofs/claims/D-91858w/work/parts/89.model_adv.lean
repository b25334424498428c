set_option maxRecDepth 100000
theorem wh_5 {I : Nat → Int32} {x y : Int32} : (f_X8_wrongHere I x y).1 = 5 := by
  unfold f_X8_wrongHere
  by_cases h : I 9 = 5
  · rw [if_pos h]; exact h
  · rw [if_neg h]
theorem wr_5 {I : Nat → Int32} {x : Int32} : (f_X8_wrong I x).1 = 5 := wh_5
/-! a token's end: never behind its beginning; behind a sign it is further on -/
def adv (a b so : Int32) : Prop := a.toNatClampNeg ≤ b.toNatClampNeg ∧ (so = 4 → a.toNatClampNeg < b.toNatClampNeg)
theorem adv.trans {a b c so1 so2 : Int32} (h1 : adv a b so1) (h2 : adv b c so2) : adv a c so2 := ⟨Nat.le_trans h1.1 h2.1, fun h => Nat.lt_of_le_of_lt h1.1 (h2.2 h)⟩
theorem adv.five {a b so1 so2 : Int32} (h1 : adv a b so1) (h : so2 = 5) : adv a b so2 := ⟨h1.1, fun h4 => by rw [h] at h4; exact absurd h4 (by decide)⟩
theorem atz.inc {z : Nat} {x : Int32} (hv : atz z x) (hlt : x.toNatClampNeg < z) (hz : z ≤ 700) : (x + 1).toNatClampNeg = x.toNatClampNeg + 1 := by
  have h1 : x + 1 = nI (x.toNatClampNeg + 1) := xnadd hv.1 (show (1 : Int32) = nI 1 by decide)
  rw [h1]; exact nI_clamp (by omega)
theorem nx9m {I tp : Nat → Int32} {zj : Nat} (hzj : I 7 = nI zj) (hz7 : zj ≤ 700) : ∀ n X, atz zj X → X.toNatClampNeg ≤ (f_X8_next_l9 I tp n X).toNatClampNeg := by
  intro n
  induction n with
  | zero => intro X h; exact Nat.le_refl _
  | succ n ih =>
    intro X h
    rw [f_X8_next_l9]
    dsimp only
    by_cases c : f_X8_byteAt (upd I 8 X) tp X X.toNatClampNeg = 32
    · rw [if_pos c]
      have hlt := ba_in (e32_ne c) h.1 hzj (by have := h.2; omega)
      have := ih _ (h.up hlt hz7)
      rw [h.inc hlt hz7] at this
      omega
    · rw [if_neg c]; exact Nat.le_refl _
theorem nx89m {I tp : Nat → Int32} {zj : Nat} {Y2 : Int32} (hzj : I 7 = nI zj) (hz7 : zj ≤ 700) : ∀ n X, atz zj X.2.1 → X.2.1.toNatClampNeg ≤ (f_X8_next_l89 I tp Y2 n X).2.1.toNatClampNeg := by
  intro n
  induction n with
  | zero => intro X h; exact Nat.le_refl _
  | succ n ih =>
    intro X h
    rw [f_X8_next_l89]
    dsimp only
    generalize hu : f_X8_byteAt _ tp X.2.1 X.2.1.toNatClampNeg = u
    by_cases c : f_X8_isLetter u = 0
    · rw [if_pos c]; exact Nat.le_refl _
    · rw [if_neg c]
      have hlt := ba_in (I := upd (upd (upd (upd I 10 Y2) 9 0) 11 0) 8 X.2.1) (tp := tp) (by rw [hu]; exact le_ne c) h.1 hzj (by have := h.2; omega)
      have := ih (X.1 + 1, X.2.1 + 1, f_X8_next_j25 I tp Y2 X) (h.up hlt hz7)
      have h2 := h.inc hlt hz7
      dsimp only at this
      omega
theorem nx178m {I tp : Nat → Int32} {zj : Nat} {Y2 : Int32} (hzj : I 7 = nI zj) (hz7 : zj ≤ 700) : ∀ n X, atz zj X.2.1 → X.2.1.toNatClampNeg ≤ (f_X8_next_l178 I tp Y2 n X).2.1.toNatClampNeg := by
  intro n
  induction n with
  | zero => intro X h; exact Nat.le_refl _
  | succ n ih =>
    intro X h
    rw [f_X8_next_l178]
    dsimp only
    generalize hu : f_X8_byteAt _ tp X.2.1 X.2.1.toNatClampNeg = u
    by_cases c : f_X8_isDigit u = 0
    · rw [if_pos c]; exact Nat.le_refl _
    · rw [if_neg c]
      have hlt := ba_in (I := upd (upd (upd (upd (upd I 10 Y2) 9 0) 11 0) 8 X.2.1) 12 X.2.2) (tp := tp) (by rw [hu]; exact di_ne c) h.1 hzj (by have := h.2; omega)
      have := ih (X.1 + 1, X.2.1 + 1, f_X8_next_j21 I tp Y2 X) (h.up hlt hz7)
      have h2 := h.inc hlt hz7
      dsimp only at this
      omega
theorem adv_next {I : Nat → Int32} {L : Nat → Int64} {tp : Nat → Int32} {zj : Nat} (hzj : I 7 = nI zj) (hz7 : zj ≤ 700) (h : atz zj (I 8)) : adv (I 8) (f_X8_next I L tp zj).1 (f_X8_next I L tp zj).2.1 := by
  unfold f_X8_next
  by_cases c : I 9 = 5
  · rw [if_pos c]; exact ⟨Nat.le_refl _, fun h4 => by dsimp only at h4; rw [c] at h4; exact absurd h4 (by decide)⟩
  · rw [if_neg c]
    dsimp only
    have hy := nx9 (tp := tp) hzj hz7 (zj + 1) _ h
    have hm := nx9m (tp := tp) hzj hz7 (zj + 1) _ h
    generalize f_X8_next_l9 I tp (zj + 1) (I 8) = Y2 at hy hm ⊢
    generalize hu : f_X8_byteAt _ tp Y2 Y2.toNatClampNeg = u
    have hin : ¬ u = -1 → Y2.toNatClampNeg < zj := fun hne => ba_in (I := upd (upd (upd (upd I 8 Y2) 10 Y2) 9 0) 11 0) (tp := tp) (by rw [hu]; exact hne) hy.1 hzj (by have := hy.2; omega)
    have hup : ¬ u = -1 → adv (I 8) (Y2 + 1) 4 := fun hne => by
      have h2 := hy.inc (hin hne) hz7
      exact ⟨by omega, fun _ => by omega⟩
    have hd : ∀ so : Int32, ¬ so = 4 → adv (I 8) Y2 so := fun so hs => ⟨hm, fun h4 => absurd h4 hs⟩
    unfold f_X8_next_j17
    by_cases c1 : u = -1
    · rw [if_pos c1]; exact hd _ (show ¬ (1 : Int32) = 4 by decide)
    · rw [if_neg c1]
      dsimp only
      split
      · split
        · split
          · exact hup c1
          · split
            · exact hup c1
            · exact hd _ (show ¬ (0 : Int32) = 4 by decide)
        · have := nx178m (I := I) (tp := tp) (Y2 := Y2) hzj hz7 (zj + 1) (0, Y2, 0) hy
          dsimp only at this
          split
          · exact ⟨Nat.le_trans hm this, fun h4 => absurd (show (0 : Int32) = 4 from h4) (by decide)⟩
          · exact ⟨Nat.le_trans hm this, fun h4 => absurd (show (3 : Int32) = 4 from h4) (by decide)⟩
      · have := nx89m (I := I) (tp := tp) (Y2 := Y2) hzj hz7 (zj + 1) (0, Y2, 0) hy
        dsimp only at this
        split
        · exact ⟨Nat.le_trans hm this, fun h4 => absurd (show (0 : Int32) = 4 from h4) (by decide)⟩
        · exact ⟨Nat.le_trans hm this, fun h4 => absurd (show (2 : Int32) = 4 from h4) (by decide)⟩
theorem adv_needWord {I : Nat → Int32} {L : Nat → Int64} {tp : Nat → Int32} {zj wn : Nat} {wb : Nat → Int32} (hzj : I 7 = nI zj) (hz7 : zj ≤ 700) (h : atz zj (I 8)) : adv (I 8) (f_X8_needWord I L tp zj wn wb).1 (f_X8_needWord I L tp zj wn wb).2.1 :=
  adv_next (I := upd (upd (upd I 9 (f_X8_needWord_j1 I (f_X8_isWord I L wn wb)).1) 13 (f_X8_needWord_j1 I (f_X8_isWord I L wn wb)).2.1) 14 (f_X8_needWord_j1 I (f_X8_isWord I L wn wb)).2.2) hzj hz7 h
theorem adv_readWhole {I : Nat → Int32} {L : Nat → Int64} {tp : Nat → Int32} {x y : Int32} {zj : Nat} (hzj : I 7 = nI zj) (hz7 : zj ≤ 700) (h : atz zj (I 8)) : adv (I 8) (f_X8_readWhole I L tp x y zj).2.1 (f_X8_readWhole I L tp x y zj).2.2.1 :=
  adv_next (I := upd (upd (upd I 9 (f_X8_readWhole_j1 I x y).1) 13 (f_X8_readWhole_j1 I x y).2.1) 14 (f_X8_readWhole_j1 I x y).2.2) hzj hz7 h
theorem adv_once {I : Nat → Int32} {L : Nat → Int64} {tp : Nat → Int32} {x : Int32} {zj : Nat} (hzj : I 7 = nI zj) (hz7 : zj ≤ 700) (h : atz zj (I 8)) : adv (I 8) (f_X8_once I L tp x zj).1 (f_X8_once I L tp x zj).2.1 :=
  adv_next (I := upd (upd (upd I 9 (f_X8_once_j1 I x).1) 13 (f_X8_once_j1 I x).2.1) 14 (f_X8_once_j1 I x).2.2) hzj hz7 h
theorem is_4 {I : Nat → Int32} {x : Int32} (h : ¬ f_X8_is I x = 0) : I 9 = 4 := by
  by_cases c : I 9 = 4
  · exact c
  · refine absurd ?_ h
    unfold f_X8_is
    show f_X8_is_j1 I x = 0
    unfold f_X8_is_j1
    rw [if_neg c]
theorem adm {a b : Int32} {P : Prop} (h : a.toNatClampNeg ≤ b.toNatClampNeg ∧ P) : adv a b 5 := ⟨h.1, fun h4 => absurd h4 (by decide)⟩
theorem adv.then {a b c so : Int32} (h1 : adv a b so) (h2 : b.toNatClampNeg ≤ c.toNatClampNeg) : adv a c 5 := ⟨Nat.le_trans h1.1 h2, fun h4 => absurd h4 (by decide)⟩
theorem adv.here {a so : Int32} (h : so = 5) : adv a a so := ⟨Nat.le_refl _, fun h4 => by rw [h] at h4; exact absurd h4 (by decide)⟩
