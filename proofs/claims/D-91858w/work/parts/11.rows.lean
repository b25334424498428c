set_option maxRecDepth 100000
/-! ROWS OF OUR OWN: array places by their number, loops -/
/-- n rounds, upward: round i has the number i -/
def itN {α : Type} (f : Nat → α → α) : Nat → α → α
  | 0, a => a
  | n + 1, a => f n (itN f n a)
/-- n rounds, downward: the first has the number n - 1 -/
def itD {α : Type} (f : Nat → α → α) : Nat → α → α
  | 0, a => a
  | n + 1, a => itD f n (f n a)
theorem xin {i : Int32} {j n : Nat} (hi : i = nI j) (hj : j < n) (hn : n < 2 ^ 31) : vp_in i n := by rw [hi]; exact vp_in_nI hj hn
theorem xcl {i : Int32} {j n : Nat} (hi : i = nI j) (hj : j < n) (hn : n < 2 ^ 31) : i.toNatClampNeg = j := by rw [hi]; exact nI_clamp (Nat.lt_trans hj hn)
theorem x01n {x : Int32} (h : x = 0 ∨ x = 1) : narrow .boolean (.int x) = .int x := by rcases h with h | h <;> rw [h] <;> rfl
theorem x01f {x : Int32} (h : x = 0 ∨ x = 1) : fits .boolean (.int x) = true := by rcases h with h | h <;> rw [h] <;> rfl
theorem xnadd {x y : Int32} {a b : Nat} (h1 : x = nI a) (h2 : y = nI b) : x + y = nI (a + b) := by rw [h1, h2, nI_add]
theorem xnmul {x y : Int32} {a b : Nat} (h1 : x = nI a) (h2 : y = nI b) : x * y = nI (a * b) := by rw [h1, h2, pk_mul]
theorem xnsub {x y : Int32} {a b : Nat} (h1 : x = nI a) (h2 : y = nI b) (h : b ≤ a) : x - y = nI (a - b) := by rw [h1, h2, pk_sub h]
theorem xndiv {x y : Int32} {a b : Nat} (h1 : x = nI a) (h2 : y = nI b) (ha : a < 2 ^ 31) (h0 : 0 < b) (hb : b < 2 ^ 31) : x / y = nI (a / b) := by rw [h1, h2, pk_div ha h0 hb]
theorem xnrem {x y : Int32} {a b : Nat} (h1 : x = nI a) (h2 : y = nI b) (ha : a < 2 ^ 31) (h0 : 0 < b) (hb : b < 2 ^ 31) : x - x / y * y = nI (a % b) := by rw [h1, h2, pk_rem ha h0 hb]
section XA
variable {p : Program} {l : Launch} {e : Env} {R : Room} {s : State} {m : MethodId} {args : Array Value} {below : List Frame} {meth : Method} {c : Code} {H : Heap} {locs : List Loc} {cells slots : Nat} {Q : State → Prop}
variable {cc : ByteArray} {pc : Nat} {ls : Array Slot} {rest : List Value} {D : va_G} {A : Nat → Prop} {a : Nat} {k : KK} {ws : va_W} {H0 : Heap}
theorem xa_iald (hexec : p.tables.exec = Jvm.exec) (hb : c.code = cc) (hg : gx D k s) (hP : va_P D vwCl ws H) (q0 : Nat) {n : Nat} {f : Nat → Int32} (ha : ws[q0]? = some (a, .inl (k.1 0, n, .inl f))) {i : Int32} {j : Nat} (hi : i = nI j) (hj : j < n) (hn : n < 2 ^ 31) (hdg : decode cc pc = .ok (.iaload, 1))
    (kk : W p l e R s m args below meth c H locs cells slots Q (F0 m (pc + 1) ls (.int (f j) :: rest))) : W p l e R s m args below meth c H locs cells slots Q (F0 m pc ls (.int i :: .ref a :: rest)) :=
  va_iald hexec hb hg.1 hP q0 0 ha rfl (xin hi hj hn) hdg (by rw [xcl hi hj hn]; exact kk)
theorem xa_lald (hexec : p.tables.exec = Jvm.exec) (hb : c.code = cc) (hg : gx D k s) (hP : va_P D vwCl ws H) (q0 : Nat) {n : Nat} {f : Nat → Int64} (ha : ws[q0]? = some (a, .inl (k.1 3, n, .inr (.inl f)))) {i : Int32} {j : Nat} (hi : i = nI j) (hj : j < n) (hn : n < 2 ^ 31) (hdg : decode cc pc = .ok (.laload, 1))
    (kk : W p l e R s m args below meth c H locs cells slots Q (F0 m (pc + 1) ls (.long (f j) :: rest))) : W p l e R s m args below meth c H locs cells slots Q (F0 m pc ls (.int i :: .ref a :: rest)) :=
  va_lald hexec hb hg.1 hP q0 3 ha rfl (xin hi hj hn) hdg (by rw [xcl hi hj hn]; exact kk)
theorem xa_bald (hexec : p.tables.exec = Jvm.exec) (hb : c.code = cc) (hg : gx D k s) (hP : va_P D vwCl ws H) (q0 : Nat) {n : Nat} {f : Nat → Int32} (ha : ws[q0]? = some (a, .inl (k.1 1, n, .inl f))) {i : Int32} {j : Nat} (hi : i = nI j) (hj : j < n) (hn : n < 2 ^ 31) (hdg : decode cc pc = .ok (.baload, 1))
    (kk : W p l e R s m args below meth c H locs cells slots Q (F0 m (pc + 1) ls (.int (f j) :: rest))) : W p l e R s m args below meth c H locs cells slots Q (F0 m pc ls (.int i :: .ref a :: rest)) :=
  va_bald hexec hb hg.1 hP q0 1 ha rfl (xin hi hj hn) hdg (by rw [xcl hi hj hn]; exact kk)
theorem xa_cald (hexec : p.tables.exec = Jvm.exec) (hb : c.code = cc) (hg : gx D k s) (hP : va_P D vwCl ws H) (q0 : Nat) {n : Nat} {f : Nat → Int32} (ha : ws[q0]? = some (a, .inl (k.1 2, n, .inl f))) {i : Int32} {j : Nat} (hi : i = nI j) (hj : j < n) (hn : n < 2 ^ 31) (hdg : decode cc pc = .ok (.caload, 1))
    (kk : W p l e R s m args below meth c H locs cells slots Q (F0 m (pc + 1) ls (.int (f j) :: rest))) : W p l e R s m args below meth c H locs cells slots Q (F0 m pc ls (.int i :: .ref a :: rest)) :=
  va_cald hexec hb hg.1 hP q0 2 ha rfl (xin hi hj hn) hdg (by rw [xcl hi hj hn]; exact kk)
theorem xa_iast (hexec : p.tables.exec = Jvm.exec) (hb : c.code = cc) (hg : gx D k s) (hP : va_P D vwCl ws H) (hD : va_D A ws) (hS : va_S A H0 H locs) (q0 : Nat) {n : Nat} {f : Nat → Int32} (ha : ws[q0]? = some (a, .inl (k.1 0, n, .inl f))) {i x : Int32} {j : Nat} (hi : i = nI j) (hj : j < n) (hn : n < 2 ^ 31) (hdg : decode cc pc = .ok (.iastore, 1))
    (kk : ∀ (f1 : Nat → Int32) (H1 : Heap) (locs1 : List Loc), f1 = upd f j x → va_P D vwCl (ws.set q0 (a, .inl (k.1 0, n, .inl f1))) H1 → va_D A (ws.set q0 (a, .inl (k.1 0, n, .inl f1))) → va_S A H0 H1 locs1 → W p l e R s m args below meth c H1 locs1 cells slots Q (F0 m (pc + 1) ls rest)) : W p l e R s m args below meth c H locs cells slots Q (F0 m pc ls (.int x :: .int i :: .ref a :: rest)) :=
  va_iast hexec hb hg.1 hP hD hS q0 0 ha rfl (xin hi hj hn) hdg (fun H1 locs1 h1 h2 h3 => kk _ H1 locs1 rfl (by rw [xcl hi hj hn] at h1; exact h1) (by rw [xcl hi hj hn] at h2; exact h2) h3)
theorem xa_last (hexec : p.tables.exec = Jvm.exec) (hb : c.code = cc) (hg : gx D k s) (hP : va_P D vwCl ws H) (hD : va_D A ws) (hS : va_S A H0 H locs) (q0 : Nat) {n : Nat} {f : Nat → Int64} (ha : ws[q0]? = some (a, .inl (k.1 3, n, .inr (.inl f)))) {i : Int32} {x : Int64} {j : Nat} (hi : i = nI j) (hj : j < n) (hn : n < 2 ^ 31) (hdg : decode cc pc = .ok (.lastore, 1))
    (kk : ∀ (f1 : Nat → Int64) (H1 : Heap) (locs1 : List Loc), f1 = vp_updL f j x → va_P D vwCl (ws.set q0 (a, .inl (k.1 3, n, .inr (.inl f1)))) H1 → va_D A (ws.set q0 (a, .inl (k.1 3, n, .inr (.inl f1)))) → va_S A H0 H1 locs1 → W p l e R s m args below meth c H1 locs1 cells slots Q (F0 m (pc + 1) ls rest)) : W p l e R s m args below meth c H locs cells slots Q (F0 m pc ls (.long x :: .int i :: .ref a :: rest)) :=
  va_last hexec hb hg.1 hP hD hS q0 3 ha rfl (xin hi hj hn) hdg (fun H1 locs1 h1 h2 h3 => kk _ H1 locs1 rfl (by rw [xcl hi hj hn] at h1; exact h1) (by rw [xcl hi hj hn] at h2; exact h2) h3)
theorem xa_bast (hexec : p.tables.exec = Jvm.exec) (hb : c.code = cc) (hg : gx D k s) (hP : va_P D vwCl ws H) (hD : va_D A ws) (hS : va_S A H0 H locs) (q0 : Nat) {n : Nat} {f : Nat → Int32} (ha : ws[q0]? = some (a, .inl (k.1 1, n, .inl f))) {i x : Int32} {j : Nat} (hi : i = nI j) (hj : j < n) (hn : n < 2 ^ 31) (hdg : decode cc pc = .ok (.bastore, 1))
    (kk : ∀ (f1 : Nat → Int32) (H1 : Heap) (locs1 : List Loc), f1 = upd f j (vp_nar .byte x) → va_P D vwCl (ws.set q0 (a, .inl (k.1 1, n, .inl f1))) H1 → va_D A (ws.set q0 (a, .inl (k.1 1, n, .inl f1))) → va_S A H0 H1 locs1 → W p l e R s m args below meth c H1 locs1 cells slots Q (F0 m (pc + 1) ls rest)) : W p l e R s m args below meth c H locs cells slots Q (F0 m pc ls (.int x :: .int i :: .ref a :: rest)) :=
  va_bast hexec hb hg.1 hP hD hS q0 1 ha rfl (xin hi hj hn) hdg (fun H1 locs1 h1 h2 h3 => kk _ H1 locs1 rfl (by rw [xcl hi hj hn] at h1; exact h1) (by rw [xcl hi hj hn] at h2; exact h2) h3)
theorem xa_cast (hexec : p.tables.exec = Jvm.exec) (hb : c.code = cc) (hg : gx D k s) (hP : va_P D vwCl ws H) (hD : va_D A ws) (hS : va_S A H0 H locs) (q0 : Nat) {n : Nat} {f : Nat → Int32} (ha : ws[q0]? = some (a, .inl (k.1 2, n, .inl f))) {i x : Int32} {j : Nat} (hi : i = nI j) (hj : j < n) (hn : n < 2 ^ 31) (hdg : decode cc pc = .ok (.castore, 1))
    (kk : ∀ (f1 : Nat → Int32) (H1 : Heap) (locs1 : List Loc), f1 = upd f j (vp_nar .char x) → va_P D vwCl (ws.set q0 (a, .inl (k.1 2, n, .inl f1))) H1 → va_D A (ws.set q0 (a, .inl (k.1 2, n, .inl f1))) → va_S A H0 H1 locs1 → W p l e R s m args below meth c H1 locs1 cells slots Q (F0 m (pc + 1) ls rest)) : W p l e R s m args below meth c H locs cells slots Q (F0 m pc ls (.int x :: .int i :: .ref a :: rest)) :=
  va_cast hexec hb hg.1 hP hD hS q0 2 ha rfl (xin hi hj hn) hdg (fun H1 locs1 h1 h2 h3 => kk _ H1 locs1 rfl (by rw [xcl hi hj hn] at h1; exact h1) (by rw [xcl hi hj hn] at h2; exact h2) h3)
/-- the ends -/
theorem xret_i {Qc : Array Value → State → Outcome → State → Prop} {free : Addr → Prop} {v : Int32} {mc ms : Nat} (hexec : p.tables.exec = Jvm.exec) (hb : c.code = cc) (hr : meth.sig.returnType = some .int) (hlocks : meth.locks = false) (h1 : cells ≤ mc) (h2 : slots ≤ ms) (hf : ∀ q ∈ locs, free q.base) (hdg : decode cc pc = .ok (.ireturn, 1))
    (hq : ∀ t : State, t.heap = H → Qc args s (.returned (some (.int v))) t) : W p l e R s m args below meth c H locs cells slots (MQ below Qc args s mc ms free) (F0 m pc ls [.int v]) :=
  W.widen h1 h2 (W.iret hexec hb hr (fun t ht _ => hq t ht) hf hdg hlocks)
theorem xret_z {Qc : Array Value → State → Outcome → State → Prop} {free : Addr → Prop} {v : Int32} {mc ms : Nat} (hexec : p.tables.exec = Jvm.exec) (hb : c.code = cc) (hr : meth.sig.returnType = some .boolean) (hlocks : meth.locks = false) (h1 : cells ≤ mc) (h2 : slots ≤ ms) (hf : ∀ q ∈ locs, free q.base) (hdg : decode cc pc = .ok (.ireturn, 1)) (hv : v = 0 ∨ v = 1)
    (hq : ∀ t : State, t.heap = H → Qc args s (.returned (some (.int v))) t) : W p l e R s m args below meth c H locs cells slots (MQ below Qc args s mc ms free) (F0 m pc ls [.int v]) :=
  W.widen h1 h2 (W.zret hexec hb hr (x01n hv) (fun t ht _ => hq t ht) hf hdg hlocks)
theorem xret_l {Qc : Array Value → State → Outcome → State → Prop} {free : Addr → Prop} {v : Int64} {mc ms : Nat} (hexec : p.tables.exec = Jvm.exec) (hb : c.code = cc) (hr : meth.sig.returnType = some .long) (hlocks : meth.locks = false) (h1 : cells ≤ mc) (h2 : slots ≤ ms) (hf : ∀ q ∈ locs, free q.base) (hdg : decode cc pc = .ok (.lreturn, 1))
    (hq : ∀ t : State, t.heap = H → Qc args s (.returned (some (.long v))) t) : W p l e R s m args below meth c H locs cells slots (MQ below Qc args s mc ms free) (F0 m pc ls [.long v]) :=
  W.widen h1 h2 (W.lret hexec hb hr (fun t ht _ => hq t ht) hf hdg hlocks)
theorem xret_v {Qc : Array Value → State → Outcome → State → Prop} {free : Addr → Prop} {mc ms : Nat} (hexec : p.tables.exec = Jvm.exec) (hb : c.code = cc) (hr : meth.sig.returnType = none) (hlocks : meth.locks = false) (h1 : cells ≤ mc) (h2 : slots ≤ ms) (hf : ∀ q ∈ locs, free q.base) (hdg : decode cc pc = .ok (.return_, 1))
    (hq : ∀ t : State, t.heap = H → Qc args s (.returned none) t) : W p l e R s m args below meth c H locs cells slots (MQ below Qc args s mc ms free) (F0 m pc ls []) :=
  W.widen h1 h2 (W.vret hexec hb hr (fun t ht _ => hq t ht) hf hdg hlocks)
end XA
