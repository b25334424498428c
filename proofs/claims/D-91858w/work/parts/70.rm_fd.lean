set_option maxRecDepth 100000
theorem fd_t {I tp : Nat → Int32} {x : Int32} {tj : Nat} {u : Int32 × (Nat → Int32)} (e : u = f_X1_bytes I tp x tj) (h : I 1 = nI tj) : u.1 = nI (tj + 4) := by
  rw [e]
  show I 1 + 1 + 1 + 1 + 1 = nI (tj + 4)
  rw [h, ← nI_succ, ← nI_succ, ← nI_succ, ← nI_succ]
theorem fd_room {t : Int32} {tj : Nat} (h : t = nI tj) (h7 : tj ≤ 700) (c : t + 20 ≤ 700) : tj + 20 ≤ 700 := by
  rcases Nat.lt_or_ge 700 (tj + 20) with h1 | h1
  · exact absurd c (xle_f (xnadd h (show (20 : Int32) = nI 20 by decide)) (show (700 : Int32) = nI 700 by decide) h1 (by omega))
  · exact h1
