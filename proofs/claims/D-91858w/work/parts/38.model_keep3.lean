set_option maxRecDepth 100000
theorem bz_0 {sv : Nat → Int32} : ∀ n j, j < n → itN f_X8_begins_l3 n sv j = 0
  | 0, _, h => absurd h (Nat.not_lt_zero _)
  | n + 1, j, h => by
    show upd (itN f_X8_begins_l3 n sv) n 0 j = 0
    by_cases e : j = n
    · rw [e]; exact pk_us
    · rw [pk_un e]; exact bz_0 n j (by omega)
theorem be_27 {MI mtn sv : Nat → Int32} {te li fl : Int32} {nS : Nat} (h5 : nS ≤ 5) : f_X8_begins MI mtn sv te li fl nS 27 = 0 := by
  show itN (f_X8_begins_l24 mtn fl) nS (itN f_X8_begins_l3 37 sv) 27 = 0
  refine itN_pres (P := fun Y : Nat → Int32 => Y 27 = 0) (N := nS) (bz_0 37 27 (by decide)) (fun i Y hi hY => ?_) nS (Nat.le_refl _)
  simp only [f_X8_begins_l24, upd]
  rw [if_neg (by omega)]
  exact hY
theorem by_27 {MI mpr mbr mnx mhd mtn pR pW pO sv : Nat → Int32} {hj now nP nS : Nat} {po : Nat → Nat} (h5 : nS ≤ 5) : f_X8_byProgram MI mpr mbr mnx mhd mtn pR pW pO sv hj now po nP nS 27 = sv 27 + 1 := by
  show f_X8_goes MI mpr mbr mnx mhd mtn _ _ _ _ _ 27 = sv 27 + 1
  rw [go_27 h5]
  rfl
