set_option maxRecDepth 100000
theorem cpy_gen {g : Nat → (Nat → Int32) → Nat → Int32} {src : Nat → Int32} (hg : ∀ i Y, g i Y = upd Y i (src i)) : ∀ (n : Nat) (X : Nat → Int32) (j : Nat), j < n → itN g n X j = src j
  | 0, _, _, h => absurd h (Nat.not_lt_zero _)
  | n + 1, X, j, h => by
    show g n (itN g n X) j = src j
    rw [hg]
    by_cases e : j = n
    · rw [e]; exact pk_us
    · rw [pk_un e]; exact cpy_gen hg n X j (by omega)
