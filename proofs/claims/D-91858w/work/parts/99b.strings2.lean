set_option maxRecDepth 100000
/-- a String, a byte array of the caller's own world, seen as one that is only read -/
theorem sAY.own {D : va_G} {k : KK} {s : State} {A : Nat → Prop} {ws wc : va_W} {H : Heap} {av n : Nat} {bs : Nat → Int32} (hg : gx D k s) (hP : va_P D vwCl ws H) (hD : va_D A ws) (isC : List Nat) (hC : isC.map (fun i => ws[i]?) = wc.map some) (p : Nat) (hp : ws[p]? = some (av, aB k n bs)) (hn : p ∉ isC) (hb : n < 2 ^ 31) : sAY k av n bs (va_A wc H.size) H := by
  have h1 : H[av]? = some (vp_cell (k.1 1) (n, .inl bs)) := hP p _ hp
  rw [vp_cell_i] at h1
  exact ⟨_, h1, State.isArrayOf_alike hg.alike.symm ((hg.1.2 1 _ rfl).1 n (fun j => .int (bs j))), (fun q => by cases q), (by first | (rw [arrV_size]; exact Nat.le_refl _) | rw [arrV_size]), (by rw [arrV_size] <;> rfl), (fun j hj => by rw [arrV_read _ _ hj]), va_apc hP hD isC hC p hp hn⟩
theorem sY.own {D : va_G} {k : KK} {s : State} {A : Nat → Prop} {ws wc : va_W} {H : Heap} {a n : Nat} {r : Nat → Nat} {I bs : Nat → Int32} (hg : gx D k s) (hP : va_P D vwCl ws H) (hD : va_D A ws) (isC : List Nat) (hC : isC.map (fun i => ws[i]?) = wc.map some) (p : Nat) (hp : ws[p]? = some (a, eSG r I)) (p2 : Nat) (hp2 : ws[p2]? = some (r 0, aB k n bs)) (hn : p ∉ isC) (hn2 : p2 ∉ isC) (hI : I 1 = 0) (hb : n < 2 ^ 31) : sY D k a (r 0) n bs (va_A wc H.size) H := by
  obtain ⟨q, hq, cell, h1, h2, h3, h4⟩ := hP p _ hp
  have hr : q = (RJ3, TJ3, 4) := (Option.some.inj hq).symm
  subst hr
  refine ⟨⟨cell, h1, h2, (by rw [h3]; rfl), (by rw [h3]; exact fun q => by cases q), (by rw [h4 0 (by decide)]; rfl), (by rw [h4 1 (by decide)]; show some (Value.int (I 1)) = _; rw [hI]), va_apc hP hD isC hC p hp hn⟩, sAY.own hg hP hD isC hC p2 hp2 hn2 hb⟩
theorem nmB {D : va_G} {k : KK} {s : State} (hg : gx D k s) : s.vm.findClass "[B" = some (k.1 1) := (hg.1.2 1 _ rfl).2
theorem nI_inj {a b : Nat} (ha : a < 2 ^ 31) (hb : b < 2 ^ 31) (h : nI a = nI b) : a = b := by
  have := congrArg Int32.toNatClampNeg h
  rw [nI_clamp ha, nI_clamp hb] at this
  exact this
