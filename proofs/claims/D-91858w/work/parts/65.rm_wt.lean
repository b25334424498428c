set_option maxRecDepth 100000
theorem wt_dead {B A x y : Int32} {bm am xj yj : Nat} (hbm : B = nI bm) (hb8 : bm ≤ 8) (ham : A = nI am) (ha8 : am ≤ 8) (hxj : x = nI xj) (hyj : y = nI yj) (hxb : xj ≤ bm + am) (hd : bm + am ≤ xj + 0) (hy8 : yj ≤ 8) (h : ¬ y = 0) : ¬ y ≤ B + A - x := by
  have h1 : B + A - x = nI (bm + am - xj) := xnsub (xnadd hbm ham) hxj hxb
  have h2 : yj ≠ 0 := by intro h0; subst h0; exact h hyj
  exact xle_f hyj h1 (by omega) (by omega)
theorem wt_live {B A x y : Int32} {bm am xj yj : Nat} (hbm : B = nI bm) (hb8 : bm ≤ 8) (ham : A = nI am) (ha8 : am ≤ 8) (hxj : x = nI xj) (hyj : y = nI yj) (hy8 : yj ≤ 8) (hxb : xj ≤ bm + am) (h : ¬ y = 0) (h2 : y ≤ B + A - x) : 1 ≤ yj ∧ xj + yj ≤ bm + am := by
  have h1 : B + A - x = nI (bm + am - xj) := xnsub (xnadd hbm ham) hxj hxb
  have h3 : yj ≠ 0 := by intro h0; subst h0; exact h hyj
  refine ⟨by omega, ?_⟩
  rcases Nat.lt_or_ge (bm + am - xj) yj with h4 | h4
  · exact absurd h2 (xle_f hyj h1 h4 (by omega))
  · omega
