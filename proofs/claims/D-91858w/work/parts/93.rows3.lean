set_option maxRecDepth 100000
/-! ROWS FOR WHAT IS MADE -/
theorem nf_X1 : ∀ j, j < 29 → defaultValue (tyX1 j) = vp_V [.null, .int 0, .null, .null, .int 0, .int 0, .int 0, .null, .null, .null, .null, .null, .null, .int 0, .null, .null, .null, .null, .int 0, .null, .null, .null, .null, .int 0, .long 0, .null, .null, .null, .null] j := by
  intro j hj
  rcases (show j = 0 ∨ j = 1 ∨ j = 2 ∨ j = 3 ∨ j = 4 ∨ j = 5 ∨ j = 6 ∨ j = 7 ∨ j = 8 ∨ j = 9 ∨ j = 10 ∨ j = 11 ∨ j = 12 ∨ j = 13 ∨ j = 14 ∨ j = 15 ∨ j = 16 ∨ j = 17 ∨ j = 18 ∨ j = 19 ∨ j = 20 ∨ j = 21 ∨ j = 22 ∨ j = 23 ∨ j = 24 ∨ j = 25 ∨ j = 26 ∨ j = 27 ∨ j = 28 by omega) with rfl | rfl | rfl | rfl | rfl | rfl | rfl | rfl | rfl | rfl | rfl | rfl | rfl | rfl | rfl | rfl | rfl | rfl | rfl | rfl | rfl | rfl | rfl | rfl | rfl | rfl | rfl | rfl | rfl <;> rfl
theorem nf_X2 : ∀ j, j < 10 → defaultValue (tyX2 j) = vp_V [.null, .null, .null, .int 0, .int 0, .int 0, .int 0, .int 0, .null, .null] j := by
  intro j hj
  rcases (show j = 0 ∨ j = 1 ∨ j = 2 ∨ j = 3 ∨ j = 4 ∨ j = 5 ∨ j = 6 ∨ j = 7 ∨ j = 8 ∨ j = 9 by omega) with rfl | rfl | rfl | rfl | rfl | rfl | rfl | rfl | rfl | rfl <;> rfl
theorem nf_X3 : ∀ j, j < 8 → defaultValue (tyX3 j) = vp_V [.null, .null, .null, .null, .null, .int 0, .int 0, .int 0] j := by
  intro j hj
  rcases (show j = 0 ∨ j = 1 ∨ j = 2 ∨ j = 3 ∨ j = 4 ∨ j = 5 ∨ j = 6 ∨ j = 7 by omega) with rfl | rfl | rfl | rfl | rfl | rfl | rfl | rfl <;> rfl
theorem nf_X4 : ∀ j, j < 18 → defaultValue (tyX4 j) = vp_V [.null, .null, .null, .null, .int 0, .int 0, .int 0, .int 0, .int 0, .int 0, .int 0, .int 0, .int 0, .int 0, .int 0, .int 0, .long 0, .int 0] j := by
  intro j hj
  rcases (show j = 0 ∨ j = 1 ∨ j = 2 ∨ j = 3 ∨ j = 4 ∨ j = 5 ∨ j = 6 ∨ j = 7 ∨ j = 8 ∨ j = 9 ∨ j = 10 ∨ j = 11 ∨ j = 12 ∨ j = 13 ∨ j = 14 ∨ j = 15 ∨ j = 16 ∨ j = 17 by omega) with rfl | rfl | rfl | rfl | rfl | rfl | rfl | rfl | rfl | rfl | rfl | rfl | rfl | rfl | rfl | rfl | rfl | rfl <;> rfl
theorem nf_X5 : ∀ j, j < 3 → defaultValue (tyX5 j) = vp_V [.int 0, .int 0, .int 0] j := by
  intro j hj
  rcases (show j = 0 ∨ j = 1 ∨ j = 2 by omega) with rfl | rfl | rfl <;> rfl
theorem nf_X6 : ∀ j, j < 2 → defaultValue (tyX6 j) = vp_V [.null, .int 0] j := by
  intro j hj
  rcases (show j = 0 ∨ j = 1 by omega) with rfl | rfl <;> rfl
theorem nf_X7 : ∀ j, j < 3 → defaultValue (tyX7 j) = vp_V [.null, .null, .long 0] j := by
  intro j hj
  rcases (show j = 0 ∨ j = 1 ∨ j = 2 by omega) with rfl | rfl | rfl <;> rfl
theorem nf_X9 : ∀ j, j < 13 → defaultValue (tyX9 j) = vp_V [.null, .null, .null, .int 0, .int 0, .int 0, .int 0, .int 0, .int 0, .int 0, .int 0, .int 0, .int 0] j := by
  intro j hj
  rcases (show j = 0 ∨ j = 1 ∨ j = 2 ∨ j = 3 ∨ j = 4 ∨ j = 5 ∨ j = 6 ∨ j = 7 ∨ j = 8 ∨ j = 9 ∨ j = 10 ∨ j = 11 ∨ j = 12 by omega) with rfl | rfl | rfl | rfl | rfl | rfl | rfl | rfl | rfl | rfl | rfl | rfl | rfl <;> rfl
theorem nf_X11 : ∀ j, j < 3 → defaultValue (tyX11 j) = vp_V [.null, .int 0, .int 0] j := by
  intro j hj
  rcases (show j = 0 ∨ j = 1 ∨ j = 2 by omega) with rfl | rfl | rfl <;> rfl
theorem nf_X12 : ∀ j, j < 3 → defaultValue (tyX12 j) = vp_V [.null, .int 0, .null] j := by
  intro j hj
  rcases (show j = 0 ∨ j = 1 ∨ j = 2 by omega) with rfl | rfl | rfl <;> rfl
theorem nf_X8 : ∀ j, j < 37 → defaultValue (tyX8 j) = vp_V [.int 0, .int 0, .int 0, .null, .null, .null, .int 0, .int 0, .int 0, .int 0, .int 0, .int 0, .int 0, .int 0, .int 0, .long 0, .null, .null, .int 0, .null, .null, .null, .null, .int 0, .null, .null, .null, .null, .null, .int 0, .null, .null, .null, .null, .null, .null, .null] j := by
  intro j hj
  rcases (show j = 0 ∨ j = 1 ∨ j = 2 ∨ j = 3 ∨ j = 4 ∨ j = 5 ∨ j = 6 ∨ j = 7 ∨ j = 8 ∨ j = 9 ∨ j = 10 ∨ j = 11 ∨ j = 12 ∨ j = 13 ∨ j = 14 ∨ j = 15 ∨ j = 16 ∨ j = 17 ∨ j = 18 ∨ j = 19 ∨ j = 20 ∨ j = 21 ∨ j = 22 ∨ j = 23 ∨ j = 24 ∨ j = 25 ∨ j = 26 ∨ j = 27 ∨ j = 28 ∨ j = 29 ∨ j = 30 ∨ j = 31 ∨ j = 32 ∨ j = 33 ∨ j = 34 ∨ j = 35 ∨ j = 36 by omega) with rfl | rfl | rfl | rfl | rfl | rfl | rfl | rfl | rfl | rfl | rfl | rfl | rfl | rfl | rfl | rfl | rfl | rfl | rfl | rfl | rfl | rfl | rfl | rfl | rfl | rfl | rfl | rfl | rfl | rfl | rfl | rfl | rfl | rfl | rfl | rfl | rfl <;> rfl
theorem nf_X13 : ∀ j, j < 18 → defaultValue (tyX13 j) = vp_V [.int 0, .int 0, .int 0, .int 0, .int 0, .int 0, .int 0, .int 0, .int 0, .int 0, .int 0, .null, .null, .null, .null, .null, .null, .null] j := by
  intro j hj
  rcases (show j = 0 ∨ j = 1 ∨ j = 2 ∨ j = 3 ∨ j = 4 ∨ j = 5 ∨ j = 6 ∨ j = 7 ∨ j = 8 ∨ j = 9 ∨ j = 10 ∨ j = 11 ∨ j = 12 ∨ j = 13 ∨ j = 14 ∨ j = 15 ∨ j = 16 ∨ j = 17 by omega) with rfl | rfl | rfl | rfl | rfl | rfl | rfl | rfl | rfl | rfl | rfl | rfl | rfl | rfl | rfl | rfl | rfl | rfl <;> rfl
theorem nf_J3 : ∀ j, j < 4 → defaultValue (tyJ3 j) = vp_V [.null, .int 0, .int 0, .int 0] j := by
  intro j hj
  rcases (show j = 0 ∨ j = 1 ∨ j = 2 ∨ j = 3 by omega) with rfl | rfl | rfl | rfl <;> rfl
theorem nf_J9 : ∀ j, j < 6 → defaultValue (tyJ9 j) = vp_V [.null, .null, .null, .null, .null, .int 0] j := by
  intro j hj
  rcases (show j = 0 ∨ j = 1 ∨ j = 2 ∨ j = 3 ∨ j = 4 ∨ j = 5 by omega) with rfl | rfl | rfl | rfl | rfl | rfl <;> rfl
section XN
variable {p : Program} {l : Launch} {e : Env} {R : Room} {s : State} {m : MethodId} {args : Array Value} {below : List Frame} {meth : Method} {c : Code} {H : Heap} {locs : List Loc} {cells slots : Nat} {Q : State → Prop}
variable {cc : ByteArray} {pc : Nat} {ls : Array Slot} {rest : List Value} {D : va_G} {A : Nat → Prop} {k : KK} {ws : va_W} {H0 : Heap}
theorem xn_gen {atype : ArrayType} {ty : FieldType} {t0 N : Nat} {cK : ClassId} {a0 : vp_A} (hty : newarray.typeOf atype = ty) (hra : ∀ (U : State) (c : ClassId), va_RA U c ty → U.vm.findClass ("[" ++ ty.toString) = some c) (ht : (kTys k)[t0]? = some (cK, ty)) (ha : ∀ cA : ClassId, vp_cell cA a0 = arrV cA N (fun _ => defaultValue ty)) (hbytes : N * componentBytes ty ≤ 536870912)
    (hexec : p.tables.exec = Jvm.exec) (hb : c.code = cc) (harr : (Cond.arrayClass ty).before args s = true) (hg : gx D k s) (hP : va_P D vwCl ws H) (hD : va_D A ws) (hS : va_S A H0 H locs) (hA : ∀ q, H0.size ≤ q → A q) {i : Int32} (hi : i = nI N) (hN : N ≤ 1000000) (hcells : cells + 1 ≤ R.cells) (hslots : slots + N ≤ R.slots) (hdg : decode cc pc = .ok (.newarray atype, 2))
    (kk : ∀ (q : Nat) (H1 : Heap), va_P D vwCl (ws ++ [(q, .inl (cK, a0))]) H1 → va_D A (ws ++ [(q, .inl (cK, a0))]) → va_S A H0 H1 locs → W p l e R s m args below meth c H1 locs (cells + 1) (slots + N) Q (F0 m (pc + 2) ls (.ref q :: rest))) : W p l e R s m args below meth c H locs cells slots Q (F0 m pc ls (.int i :: rest)) := by
  refine va_newa (tys := kTys k) (N' := N) hexec hb (by rw [hty]; exact harr) hty hg.1 hP hD hS hA ha (by rw [hi]; exact nI_pos (by omega)) (by rw [hi]; exact nI_clamp (by omega)) hbytes hcells hslots hdg (fun q cA H1 hK hP1 hD1 hS1 => ?_)
  have e1 := hra s cA (hK.2 (kTys k).length (cA, ty) (by simp)).2
  have e2 := hra s cK (hg.1.2 t0 _ ht).2
  obtain rfl : cA = cK := Option.some.inj (e1.symm.trans e2)
  exact kk q H1 hP1 hD1 hS1
theorem xn_i {N : Nat} (hexec : p.tables.exec = Jvm.exec) (hb : c.code = cc) (harr : (Cond.arrayClass .int).before args s = true) (hg : gx D k s) (hP : va_P D vwCl ws H) (hD : va_D A ws) (hS : va_S A H0 H locs) (hA : ∀ q, H0.size ≤ q → A q) {i : Int32} (hi : i = nI N) (hN : N ≤ 1000000) (hcells : cells + 1 ≤ R.cells) (hslots : slots + N ≤ R.slots) (hdg : decode cc pc = .ok (.newarray .int, 2))
    (kk : ∀ (q : Nat) (H1 : Heap), va_P D vwCl (ws ++ [(q, .inl (k.1 0, N, .inl (fun _ => 0)))]) H1 → va_D A (ws ++ [(q, .inl (k.1 0, N, .inl (fun _ => 0)))]) → va_S A H0 H1 locs → W p l e R s m args below meth c H1 locs (cells + 1) (slots + N) Q (F0 m (pc + 2) ls (.ref q :: rest))) : W p l e R s m args below meth c H locs cells slots Q (F0 m pc ls (.int i :: rest)) :=
  xn_gen (ty := .int) (t0 := 0) rfl (fun _ _ h => h) rfl (fun _ => rfl) (by show N * 4 ≤ _; omega) hexec hb harr hg hP hD hS hA hi hN hcells hslots hdg kk
theorem xn_b {N : Nat} (hexec : p.tables.exec = Jvm.exec) (hb : c.code = cc) (harr : (Cond.arrayClass .byte).before args s = true) (hg : gx D k s) (hP : va_P D vwCl ws H) (hD : va_D A ws) (hS : va_S A H0 H locs) (hA : ∀ q, H0.size ≤ q → A q) {i : Int32} (hi : i = nI N) (hN : N ≤ 1000000) (hcells : cells + 1 ≤ R.cells) (hslots : slots + N ≤ R.slots) (hdg : decode cc pc = .ok (.newarray .byte, 2))
    (kk : ∀ (q : Nat) (H1 : Heap), va_P D vwCl (ws ++ [(q, .inl (k.1 1, N, .inl (fun _ => 0)))]) H1 → va_D A (ws ++ [(q, .inl (k.1 1, N, .inl (fun _ => 0)))]) → va_S A H0 H1 locs → W p l e R s m args below meth c H1 locs (cells + 1) (slots + N) Q (F0 m (pc + 2) ls (.ref q :: rest))) : W p l e R s m args below meth c H locs cells slots Q (F0 m pc ls (.int i :: rest)) :=
  xn_gen (ty := .byte) (t0 := 1) rfl (fun _ _ h => h) rfl (fun _ => rfl) (by show N * 1 ≤ _; omega) hexec hb harr hg hP hD hS hA hi hN hcells hslots hdg kk
theorem xn_c {N : Nat} (hexec : p.tables.exec = Jvm.exec) (hb : c.code = cc) (harr : (Cond.arrayClass .char).before args s = true) (hg : gx D k s) (hP : va_P D vwCl ws H) (hD : va_D A ws) (hS : va_S A H0 H locs) (hA : ∀ q, H0.size ≤ q → A q) {i : Int32} (hi : i = nI N) (hN : N ≤ 1000000) (hcells : cells + 1 ≤ R.cells) (hslots : slots + N ≤ R.slots) (hdg : decode cc pc = .ok (.newarray .char, 2))
    (kk : ∀ (q : Nat) (H1 : Heap), va_P D vwCl (ws ++ [(q, .inl (k.1 2, N, .inl (fun _ => 0)))]) H1 → va_D A (ws ++ [(q, .inl (k.1 2, N, .inl (fun _ => 0)))]) → va_S A H0 H1 locs → W p l e R s m args below meth c H1 locs (cells + 1) (slots + N) Q (F0 m (pc + 2) ls (.ref q :: rest))) : W p l e R s m args below meth c H locs cells slots Q (F0 m pc ls (.int i :: rest)) :=
  xn_gen (ty := .char) (t0 := 2) rfl (fun _ _ h => h) rfl (fun _ => rfl) (by show N * 2 ≤ _; omega) hexec hb harr hg hP hD hS hA hi hN hcells hslots hdg kk
theorem xn_l {N : Nat} (hexec : p.tables.exec = Jvm.exec) (hb : c.code = cc) (harr : (Cond.arrayClass .long).before args s = true) (hg : gx D k s) (hP : va_P D vwCl ws H) (hD : va_D A ws) (hS : va_S A H0 H locs) (hA : ∀ q, H0.size ≤ q → A q) {i : Int32} (hi : i = nI N) (hN : N ≤ 1000000) (hcells : cells + 1 ≤ R.cells) (hslots : slots + N ≤ R.slots) (hdg : decode cc pc = .ok (.newarray .long, 2))
    (kk : ∀ (q : Nat) (H1 : Heap), va_P D vwCl (ws ++ [(q, .inl (k.1 3, N, .inr (.inl (fun _ => 0))))]) H1 → va_D A (ws ++ [(q, .inl (k.1 3, N, .inr (.inl (fun _ => 0))))]) → va_S A H0 H1 locs → W p l e R s m args below meth c H1 locs (cells + 1) (slots + N) Q (F0 m (pc + 2) ls (.ref q :: rest))) : W p l e R s m args below meth c H locs cells slots Q (F0 m pc ls (.int i :: rest)) :=
  xn_gen (ty := .long) (t0 := 3) rfl (fun _ _ h => h) rfl (fun _ => rfl) (by show N * 8 ≤ _; omega) hexec hb harr hg hP hD hS hA hi hN hcells hslots hdg kk
theorem xn_q {t0 N : Nat} {cK : ClassId} {own C : String} {index : Nat} (hexec : p.tables.exec = Jvm.exec) (hb : c.code = cc) (hown : s.vm.findClass own = some m.cls) (hcl : (Cond.classLink own index C).before args s = true) (hao : va_AO C s) (hg : gx D k s) (hP : va_P D vwCl ws H) (hD : va_D A ws) (hS : va_S A H0 H locs) (hA : ∀ q, H0.size ≤ q → A q) (ht : (kTys k)[t0]? = some (cK, .object C)) {i : Int32} (hi : i = nI N) (hN : N ≤ 1000000) (hcells : cells + 1 ≤ R.cells) (hslots : slots + N ≤ R.slots) (hdg : decode cc pc = .ok (.anewarray index, 3))
    (kk : ∀ (q : Nat) (H1 : Heap), va_P D vwCl (ws ++ [(q, .inl (cK, N, .inr (.inr (.inr (.inr (fun _ => none))))))]) H1 → va_D A (ws ++ [(q, .inl (cK, N, .inr (.inr (.inr (.inr (fun _ => none))))))]) → va_S A H0 H1 locs → W p l e R s m args below meth c H1 locs (cells + 1) (slots + N) Q (F0 m (pc + 3) ls (.ref q :: rest))) : W p l e R s m args below meth c H locs cells slots Q (F0 m pc ls (.int i :: rest)) := by
  refine va_newq (tys := kTys k) (N' := N) hexec hb hown hcl hao hg.1 hP hD hS hA (by rw [hi]; exact nI_pos (by omega)) (by rw [hi]; exact nI_clamp (by omega)) (by omega) hcells hslots hdg (fun q cA H1 hK hP1 hD1 hS1 => ?_)
  obtain ⟨_, _, _, _, _, e1⟩ := (hK.2 (kTys k).length (cA, .object C) (by simp)).2
  obtain ⟨_, _, _, _, _, e2⟩ := (hg.1.2 t0 _ ht).2
  obtain rfl : cA = cK := Option.some.inj (e1.symm.trans e2)
  exact kk q H1 hP1 hD1 hS1
end XN
theorem mInv0 {so : Int32} : mInv (upd (upd (upd (upd (fun _ => 0) 0 (-1)) 2 (-1)) 4 (-1)) 5 (-1)) so := ⟨0, 0, 0, 0, rfl, rfl, rfl, rfl, by omega, by omega, by omega, by omega, Or.inr rfl⟩
section XN2
variable {p : Program} {l : Launch} {e : Env} {R : Room} {s : State} {m : MethodId} {args : Array Value} {below : List Frame} {meth : Method} {c : Code} {H : Heap} {locs : List Loc} {cells slots : Nat} {Q : State → Prop}
variable {cc : ByteArray} {pc : Nat} {ls : Array Slot} {rest : List Value} {D : va_G} {A : Nat → Prop} {a : Nat} {k : KK} {ws : va_W} {H0 : Heap}
theorem xn_aast {t0 qk ci : Nat} {cA : ClassId} {r : vw_C} {n v : Nat} {vs : List Value} {f : Nat → Option Nat} (hexec : p.tables.exec = Jvm.exec) (hb : c.code = cc) (hg : gx D k s) (hP : va_P D vwCl ws H) (hD : va_D A ws) (hS : va_S A H0 H locs) (q0 : Nat) (ha : ws[q0]? = some (a, .inl (cA, n, .inr (.inr (.inr (.inr f)))))) (ht : (kTys k)[t0]? = some (cA, .object r.1)) (hv : ws[qk]? = some (v, .inr (ci, vs))) (hc : vwCl[ci]? = some r) {i : Int32} {j : Nat} (hi : i = nI j) (hj : j < n) (hn : n < 2 ^ 31) (hdg : decode cc pc = .ok (.aastore, 1))
    (kk : ∀ (H1 : Heap) (locs1 : List Loc), va_P D vwCl (ws.set q0 (a, .inl (cA, n, .inr (.inr (.inr (.inr (va_up f j (some v)))))))) H1 → va_D A (ws.set q0 (a, .inl (cA, n, .inr (.inr (.inr (.inr (va_up f j (some v)))))))) → va_S A H0 H1 locs1 → W p l e R s m args below meth c H1 locs1 cells slots Q (F0 m (pc + 1) ls rest)) : W p l e R s m args below meth c H locs cells slots Q (F0 m pc ls (.ref v :: .int i :: .ref a :: rest)) :=
  va_astq hexec hb hg.1 hP hD hS q0 t0 qk ci ha ht hv hc (xin hi hj hn) hdg (fun H1 locs1 h1 h2 h3 => kk H1 locs1 (by rw [xcl hi hj hn] at h1; exact h1) (by rw [xcl hi hj hn] at h2; exact h2) h3)
end XN2
