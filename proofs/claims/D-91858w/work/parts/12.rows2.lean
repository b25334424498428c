set_option maxRecDepth 100000
theorem xle_t {x y : Int32} {a b : Nat} (hx : x = nI a) (hy : y = nI b) (h : a ≤ b) (hb : b < 2 ^ 31) : x ≤ y := by rw [hx, hy]; exact nI_le h hb
theorem xle_f {x y : Int32} {a b : Nat} (hx : x = nI a) (hy : y = nI b) (h : b < a) (ha : a < 2 ^ 31) : ¬ x ≤ y := by rw [hx, hy]; exact nI_ge h ha
theorem xlt_t {x y : Int32} {a b : Nat} (hx : x = nI a) (hy : y = nI b) (h : a < b) (hb : b < 2 ^ 31) : x < y := by rw [hx, hy]; exact nI_lt h hb
theorem xlt_f {x y : Int32} {a b : Nat} (hx : x = nI a) (hy : y = nI b) (h : b ≤ a) (ha : a < 2 ^ 31) : ¬ x < y := by rw [hx, hy]; exact nI_nlt h ha
theorem xinc1 (n : Nat) : nI n + Int32.ofInt 1 = nI (n + 1) := (nI_succ n).symm
theorem xdec1 (x : Int32) : x + Int32.ofInt (-1) = x - 1 := by rw [show Int32.ofInt (-1) = -1 by decide]; grind
theorem cl_0 : Int64.ofNat ((0 : Fin 2) : Nat) = 0 := by decide
theorem cl_1 : Int64.ofNat ((1 : Fin 2) : Nat) = 1 := by decide
section XB
variable {p : Program} {l : Launch} {e : Env} {R : Room} {s : State} {m : MethodId} {args : Array Value} {below : List Frame} {meth : Method} {c : Code} {H : Heap} {locs : List Loc} {cells slots : Nat} {Q : State → Prop}
variable {cc : ByteArray} {pc : Nat} {ls : Array Slot} {rest : List Value} {D : va_G} {A : Nat → Prop} {a : Nat} {k : KK} {ws : va_W} {H0 : Heap}
/-- an array of cells is read at a place that holds one -/
theorem xa_aald (hexec : p.tables.exec = Jvm.exec) (hb : c.code = cc) (hg : gx D k s) (hP : va_P D vwCl ws H) (q0 t0 : Nat) {cA : ClassId} {C : String} {n : Nat} {f : Nat → Option Nat} (ha : ws[q0]? = some (a, .inl (cA, n, .inr (.inr (.inr (.inr f)))))) (ht : (kTys k)[t0]? = some (cA, .object C)) {i : Int32} {j : Nat} (hi : i = nI j) (hj : j < n) (hn : n < 2 ^ 31) {b : Nat} (hv : f j = some b) (hdg : decode cc pc = .ok (.aaload, 1))
    (kk : W p l e R s m args below meth c H locs cells slots Q (F0 m (pc + 1) ls (.ref b :: rest))) : W p l e R s m args below meth c H locs cells slots Q (F0 m pc ls (.int i :: .ref a :: rest)) :=
  va_aldq hexec hb hg.1 hP q0 t0 ha ht (xin hi hj hn) hdg (by rw [xcl hi hj hn, hv]; exact kk)
/-- an array of cells is read: the answer may be null -/
theorem xa_aaldq (hexec : p.tables.exec = Jvm.exec) (hb : c.code = cc) (hg : gx D k s) (hP : va_P D vwCl ws H) (q0 t0 : Nat) {cA : ClassId} {C : String} {n : Nat} {f : Nat → Option Nat} (ha : ws[q0]? = some (a, .inl (cA, n, .inr (.inr (.inr (.inr f)))))) (ht : (kTys k)[t0]? = some (cA, .object C)) {i : Int32} {j : Nat} (hi : i = nI j) (hj : j < n) (hn : n < 2 ^ 31) (hdg : decode cc pc = .ok (.aaload, 1))
    (kk : W p l e R s m args below meth c H locs cells slots Q (F0 m (pc + 1) ls (va_rf (f j) :: rest))) : W p l e R s m args below meth c H locs cells slots Q (F0 m pc ls (.int i :: .ref a :: rest)) :=
  va_aldq hexec hb hg.1 hP q0 t0 ha ht (xin hi hj hn) hdg (by rw [xcl hi hj hn]; exact kk)
theorem xa_copyi (hexec : p.tables.exec = Jvm.exec) (hb : c.code = cc) (hml : c.maxLocals = ls.size) {own : String} {index : Nat} (hown : s.vm.findClass own = some m.cls) (hlink : (Cond.methodLink own index arraycopyName).before args s = true) (hnat : (Cond.native arraycopyName).before args s = true) (hstat : (Cond.static arraycopyName).before args s = true) (hini : (Cond.initialized "java/lang/System").before args s = true)
    (hg : gx D k s) (hP : va_P D vwCl ws H) (hD : va_D A ws) (hS : va_S A H0 H locs) (q0 q1 : Nat) {a0 n0 n1 : Nat} {f g : Nat → Int32} (ha0 : ws[q0]? = some (a0, .inl (k.1 0, n0, .inl f))) (ha1 : ws[q1]? = some (a, .inl (k.1 0, n1, .inl g)))
    {sp dp n : Int32} {sj dj nj : Nat} (e1 : sp = nI sj) (e2 : dp = nI dj) (e3 : n = nI nj) (h4 : sj + nj ≤ n0) (h5 : dj + nj ≤ n1) (h6 : n0 < 2 ^ 31) (h7 : n1 < 2 ^ 31)
    (hframes : 1 ≤ R.frames) (hlocals : (rest.map fun v => v.category).sum + (nativeFrameWords "java/lang/System" "arraycopy" 5 + 11) ≤ R.locals) (hdg : decode cc pc = .ok (.invokestatic index, 3))
    (kk : ∀ (f1 : Nat → Int32) (H1 : Heap) (locs1 : List Loc), f1 = va_cpy f g sj dj nj → va_P D vwCl (ws.set q1 (a, .inl (k.1 0, n1, .inl f1))) H1 → va_D A (ws.set q1 (a, .inl (k.1 0, n1, .inl f1))) → va_S A H0 H1 locs1 → W p l e R s m args below meth c H1 locs1 cells slots Q (F0 m (pc + 3) ls rest)) :
    W p l e R s m args below meth c H locs cells slots Q (F0 m pc ls (.int n :: .int dp :: .ref a :: .int sp :: .ref a0 :: rest)) := by
  have c1 : sp.toNatClampNeg = sj := by rw [e1]; exact nI_clamp (by omega)
  have c2 : dp.toNatClampNeg = dj := by rw [e2]; exact nI_clamp (by omega)
  have c3 : n.toNatClampNeg = nj := by rw [e3]; exact nI_clamp (by omega)
  refine va_copyi (sp := sp) (dp := dp) (n := n) (ty := .int) hexec hb hml hown hlink hnat hstat hini hg.1 hP hD hS q0 q1 0 0 ha0 ha1 rfl rfl rfl (by rw [e1]; exact nI_pos (by omega)) (by rw [e2]; exact nI_pos (by omega)) (by rw [e3]; exact nI_pos (by omega)) (by rw [c1, c3]; exact h4) (by rw [c2, c3]; exact h5) (fun _ _ => rfl) hframes hlocals hdg (fun H1 locs1 h1 h2 h3 => ?_)
  rw [c1, c2, c3] at h1 h2
  exact kk _ H1 locs1 rfl h1 h2 h3
theorem xret_q {Qc : Array Value → State → Outcome → State → Prop} {free : Addr → Prop} {v : Option Nat} {v0 : Value} {mc ms : Nat} {C : String} (hexec : p.tables.exec = Jvm.exec) (hb : c.code = cc) (hr : meth.sig.returnType = some (.object C)) (hlocks : meth.locks = false) (h1 : cells ≤ mc) (h2 : slots ≤ ms) (hf : ∀ q ∈ locs, free q.base) (hdg : decode cc pc = .ok (.areturn, 1)) (hv : v0 = va_rf v)
    (hq : ∀ t : State, t.heap = H → Qc args s (.returned (some (va_rf v))) t) : W p l e R s m args below meth c H locs cells slots (MQ below Qc args s mc ms free) (F0 m pc ls [v0]) := by
  subst hv
  exact W.widen h1 h2 (W.aret hexec hb hr (Or.inl ⟨_, rfl⟩) (va_rf_or v) (fun t ht _ => hq t ht) hf hdg hlocks)
end XB
theorem xdn2 {n : Nat} {x : Int32} (hx : x = nI n) (h : 2 ≤ n) : nI (n - 1) - 1 = x - 2 := by
  obtain ⟨m, rfl⟩ : ∃ m, n = m + 1 := ⟨n - 1, by omega⟩
  rw [hx, Nat.add_sub_cancel, nI_succ]; grind
theorem itN_pres {α : Type} {f : Nat → α → α} {P : α → Prop} {X0 : α} (h0 : P X0) {N : Nat} (hs : ∀ i Y, i < N → P Y → P (f i Y)) : ∀ i, i ≤ N → P (itN f i X0)
  | 0, _ => h0
  | i + 1, h => hs i _ h (itN_pres h0 hs i (Nat.le_of_succ_le h))
theorem itD_pres {α : Type} {f : Nat → α → α} {P : α → Prop} {N : Nat} (hs : ∀ i Y, i < N → P Y → P (f i Y)) : ∀ (n : Nat) (X0 : α), n ≤ N → P X0 → P (itD f n X0)
  | 0, _, _, h => h
  | n + 1, X0, hn, h => itD_pres hs n _ (Nat.le_of_succ_le hn) (hs n X0 hn h)
theorem xix {n nS : Nat} {M : Int32} (hM : M = nI nS) (h5 : nS ≤ 5) : (if M ≤ nI n + 2 then nI n + 1 else nI n + 2) = nI (if n + 2 < nS then n + 2 else n + 1) ∨ 5 ≤ n := by
  rcases Nat.lt_or_ge n 5 with hn | hn
  · left
    by_cases h : n + 2 < nS
    · rw [if_neg (xle_f hM (xnadd rfl (show (2 : Int32) = nI 2 by decide)) (by omega) (by omega)), if_pos h]; exact xnadd rfl (by decide)
    · rw [if_pos (xle_t hM (xnadd rfl (show (2 : Int32) = nI 2 by decide)) (by omega) (by omega)), if_neg h]; exact xnadd rfl (by decide)
  · right; exact hn
theorem xm_l {α β γ : Type} {z : α ⊕ β} {a : α} {f : α → γ} {g : β → γ} (h : z = .inl a) : Sum.elim f g z = f a := by rw [h]; rfl
theorem xm_r {α β γ : Type} {z : α ⊕ β} {x : β} {f : α → γ} {g : β → γ} (h : z = .inr x) : Sum.elim f g z = g x := by rw [h]; rfl
theorem itN_inv {α : Type} {f : Nat → α → α} {P : Nat → α → Prop} {X0 : α} (h0 : P 0 X0) {N : Nat} (hs : ∀ i Y, i < N → P i Y → P (i + 1) (f i Y)) : ∀ i, i ≤ N → P i (itN f i X0)
  | 0, _ => h0
  | i + 1, h => hs i _ h (itN_inv h0 hs i (Nat.le_of_succ_le h))
theorem xm_l0 {α β : Type} {z : α ⊕ β} {a : α} {g : β → α} (h : z = .inl a) : Sum.elim (fun r_ => r_) g z = a := by rw [h]; rfl
theorem xm_l1 {α β γ : Type} {z : α ⊕ β} {a : α} {g : β → α ⊕ γ} (h : z = .inl a) : Sum.elim (fun r_ => .inl r_) g z = .inl a := by rw [h]; rfl
