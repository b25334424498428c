set_option maxRecDepth 100000
/-! STRINGS: the old heap, strings that are only read, the constants, the statics -/
/-- the cells that stood there when all began haven't changed, and none of them may change -/
def oldY (k : KK) (A : Nat → Prop) (H : Heap) : Prop := (∀ q : Nat, q < k.2.heap.size → H[q]? = k.2.heap[q]?) ∧ ∀ q, A q → k.2.heap.size ≤ q
theorem oldY.mono {k : KK} {A B : Nat → Prop} {H : Heap} (h : oldY k A H) (hB : ∀ q, B q → A q) : oldY k B H := ⟨h.1, fun q z => h.2 q (hB q z)⟩
theorem oldY.lt {k : KK} {A : Nat → Prop} {H : Heap} (h : oldY k A H) {q : Nat} (hq : q < k.2.heap.size) : q < H.size := by
  have h1 := h.1 q hq
  rw [Array.getElem?_eq_getElem hq] at h1
  exact (Array.getElem?_eq_some_iff.mp h1).1
theorem oldY.at {k : KK} {A : Nat → Prop} {H0 H : Heap} {locs : List Loc} (h : oldY k A H0) (hS : va_S A H0 H locs) : oldY k A H := ⟨fun q hq => by rw [hS.2.1 q (h.lt hq) (fun z => absurd (h.2 q z) (by omega))]; exact h.1 q hq, h.2⟩
theorem oldY.call {k : KK} {A B : Nat → Prop} {H0 H : Heap} {locs : List Loc} (h : oldY k A H0) (hS : va_S A H0 H locs) (hB : ∀ q, B q → A q) : oldY k B H := (h.at hS).mono hB
theorem oldY.off {k : KK} {A : Nat → Prop} {H : Heap} (h : oldY k A H) : ∀ q : Nat, q < k.2.heap.size → ¬ k.2.heap.size ≤ q → H[q]? = k.2.heap[q]? := fun q hq _ => h.1 q hq
/-- a byte array that is only read; a String that is only read -/
abbrev sAY (k : KK) (av n : Nat) (bs : Nat → Int32) (A : Nat → Prop) (H : Heap) : Prop := va_T .byte av n (fun j => .int (bs j)) A k.2 H
def sOY (D : va_G) (a av : Nat) (A : Nat → Prop) (H : Heap) : Prop := ∃ cell : Cell, H[a]? = some cell ∧ cell.cls = D.1 12 ∧ cell.vm.isStatics = false ∧ cell.vm ≠ .unknown ∧ cell.slots[D.2 12 0]? = some (.ref av) ∧ cell.slots[D.2 12 1]? = some (.int 0) ∧ ¬ A a
theorem sOY.mono {D : va_G} {a av : Nat} {A B : Nat → Prop} {H : Heap} (h : sOY D a av A H) (hB : ∀ q, B q → A q) : sOY D a av B H := by
  obtain ⟨cell, h1, h2, h3, h4, h5, h6, h7⟩ := h
  exact ⟨cell, h1, h2, h3, h4, h5, h6, fun z => h7 (hB _ z)⟩
theorem sOY.at {D : va_G} {a av : Nat} {A : Nat → Prop} {H0 H : Heap} {locs : List Loc} (h : sOY D a av A H0) (hS : va_S A H0 H locs) : sOY D a av A H := by
  obtain ⟨cell, h1, h2, h3, h4, h5, h6, h7⟩ := h
  exact ⟨cell, by rw [hS.2.1 a (Array.getElem?_eq_some_iff.mp h1).1 h7]; exact h1, h2, h3, h4, h5, h6, h7⟩
def sY (D : va_G) (k : KK) (a av n : Nat) (bs : Nat → Int32) (A : Nat → Prop) (H : Heap) : Prop := sOY D a av A H ∧ sAY k av n bs A H
theorem sY.mono {D : va_G} {k : KK} {a av n : Nat} {bs : Nat → Int32} {A B : Nat → Prop} {H : Heap} (h : sY D k a av n bs A H) (hB : ∀ q, B q → A q) : sY D k a av n bs B H := ⟨h.1.mono hB, va_T.narrow h.2 hB⟩
theorem sY.at {D : va_G} {k : KK} {a av n : Nat} {bs : Nat → Int32} {A : Nat → Prop} {H0 H : Heap} {locs : List Loc} (h : sY D k a av n bs A H0) (hS : va_S A H0 H locs) : sY D k a av n bs A H := ⟨h.1.at hS, va_T.kept h.2 hS.2.1⟩
theorem sAY.at {k : KK} {av n : Nat} {bs : Nat → Int32} {A : Nat → Prop} {H0 H : Heap} {locs : List Loc} (h : sAY k av n bs A H0) (hS : va_S A H0 H locs) : sAY k av n bs A H := va_T.kept h hS.2.1
theorem sAY.call {k : KK} {av n : Nat} {bs : Nat → Int32} {A B : Nat → Prop} {H0 H : Heap} {locs : List Loc} (h : sAY k av n bs A H0) (hS : va_S A H0 H locs) (hB : ∀ q, B q → A q) : sAY k av n bs B H := va_T.narrow (sAY.at h hS) hB
theorem sY.call {D : va_G} {k : KK} {a av n : Nat} {bs : Nat → Int32} {A B : Nat → Prop} {H0 H : Heap} {locs : List Loc} (h : sY D k a av n bs A H0) (hS : va_S A H0 H locs) (hB : ∀ q, B q → A q) : sY D k a av n bs B H := (h.at hS).mono hB
theorem gx.warm {D : va_G} {k : KK} {s : State} (hg : gx D k s) : k.2.WarmedH s.vm := hg.2.2.2.2.2.2.2.2
theorem gx.alike {D : va_G} {k : KK} {s : State} (hg : gx D k s) : k.2.vm.Alike s.vm := hg.warm.alike
/-- what the start says of a String constant -/
def czA (k : KK) : Nat → Prop := fun q => k.2.heap.size ≤ q
def czS (k : KK) (a av n : Nat) (bs : Nat → Int32) : Prop := va_O "java/lang/String" a (czA k) k.2 k.2.heap ∧ va_OF "java/lang/String" "coder" "B" (.int 0) a (czA k) k.2 k.2.heap ∧ va_OF "java/lang/String" "value" "[B" (.ref av) a (czA k) k.2 k.2.heap ∧ sAY k av n bs (czA k) k.2.heap
theorem sY.ofcz {D : va_G} {k : KK} {s : State} {a av n : Nat} {bs : Nat → Int32} {A : Nat → Prop} {H : Heap} (h : czS k a av n bs) (hg : gx D k s) (hO : oldY k A H) : sY D k a av n bs A H := by
  obtain ⟨⟨cell, h1, h2, h3, h4⟩, ⟨cf1, k1, i1, f1, cell1, a1, a2, a3, a4, a5, -⟩, ⟨cf2, k2, i2, f2, cell2, b1, b2, b3, b4, b5, -⟩, hT⟩ := h
  obtain rfl : cell = cell1 := Option.some.inj (h1.symm.trans a3)
  obtain rfl : cell = cell2 := Option.some.inj (h1.symm.trans b3)
  have hlt : a < k.2.heap.size := (Array.getElem?_eq_some_iff.mp h1).1
  obtain ⟨hSl, hfc, -⟩ := hg.1.1 12 _ rfl
  have e1 : s.vm.findClass "java/lang/String" = some cell.cls := by rw [hg.alike.findClass]; exact h3
  have e2 : s.vm.findClass "java/lang/String" = some (D.1 12) := hfc
  obtain ⟨c0, l0, j0, g0, v1, v2⟩ := hSl 0 (by decide)
  obtain ⟨c9, l9, j9, g9, w1, w2⟩ := hSl 1 (by decide)
  obtain ⟨k1', m1, -⟩ := State.fieldFound?_setVm hg.alike a1
  obtain ⟨k2', m2, -⟩ := State.fieldFound?_setVm hg.alike b1
  have m1' : s.fieldFound? "java/lang/String" "coder" "B" = some (cf1, k1', i1, f1) := m1
  have m2' : s.fieldFound? "java/lang/String" "value" "[B" = some (cf2, k2', i2, f2) := m2
  have v1' : s.fieldFound? "java/lang/String" "value" "[B" = some (c0, l0, j0, g0) := v1
  have w1' : s.fieldFound? "java/lang/String" "coder" "B" = some (c9, l9, j9, g9) := w1
  rw [m2'] at v1'
  rw [m1'] at w1'
  simp only [Option.some.injEq, Prod.mk.injEq] at v1' w1'
  refine ⟨⟨cell, by rw [hO.1 a hlt]; exact h1, Option.some.inj (e1.symm.trans e2), h2, a4, ?_, ?_, fun z => absurd (hO.2 a z) (by omega)⟩, va_T.narrow (va_T.kept hT (fun q hq _ => hO.1 q hq)) (fun q z => hO.2 q z)⟩
  · rw [← v2, ← v1'.2.2.2]; exact b5
  · rw [← w2, ← w1'.2.2.2]; exact a5
abbrev scT : List String := ["drum", "sieve", "liner", "bin", "price", "size", "ore", "room", "loud", "slips", "draws", "breaks", "next", "hard", "tons", ""]
abbrev scB : List (List Int32) := [[100, 114, 117, 109], [115, 105, 101, 118, 101], [108, 105, 110, 101, 114], [98, 105, 110], [112, 114, 105, 99, 101], [115, 105, 122, 101], [111, 114, 101], [114, 111, 111, 109], [108, 111, 117, 100], [115, 108, 105, 112, 115], [100, 114, 97, 119, 115], [98, 114, 101, 97, 107, 115], [110, 101, 120, 116], [104, 97, 114, 100], [116, 111, 110, 115], []]
def scN (i : Nat) : Nat := (scB.getD i []).length
def scF (i j : Nat) : Int32 := (scB.getD i []).getD j 0
abbrev scL : List (String × Nat × String × Nat) := [("java/lang/String", 7, "", 15), ("RoarMill$Reader", 59, "", 15), ("RoarMill$Reader", 93, "drum", 0), ("RoarMill$Reader", 95, "sieve", 1), ("RoarMill$Reader", 97, "liner", 2), ("RoarMill$Reader", 99, "bin", 3), ("RoarMill$Reader", 101, "price", 4), ("RoarMill$Reader", 103, "size", 5), ("RoarMill$Reader", 104, "ore", 6), ("RoarMill$Reader", 134, "room", 7), ("RoarMill$Reader", 143, "loud", 8), ("RoarMill$Reader", 174, "slips", 9), ("RoarMill$Reader", 154, "draws", 10), ("RoarMill$Reader", 192, "breaks", 11), ("RoarMill$Reader", 194, "next", 12), ("RoarMill$Reader", 207, "hard", 13), ("RoarMill$Reader", 214, "tons", 14), ("RoarMillModel", 153, "drum", 0), ("RoarMillModel", 222, "room", 7), ("RoarMillModel", 231, "loud", 8), ("RoarMillModel", 155, "sieve", 1), ("RoarMillModel", 157, "liner", 2), ("RoarMillModel", 159, "bin", 3), ("RoarMillModel", 161, "price", 4), ("RoarMillModel", 163, "size", 5), ("RoarMillModel", 164, "ore", 6), ("RoarMillModel", 246, "slips", 9), ("RoarMillModel", 250, "draws", 10), ("RoarMillModel", 265, "breaks", 11), ("RoarMillModel", 269, "next", 12), ("RoarMillModel", 272, "hard", 13), ("RoarMillModel", 274, "tons", 14)]
/-- what the start says, once for all -/
def cz (k : KK) : Prop := (∀ i, i < 16 → czS k (k.1 (100 + i)) (k.1 (200 + i)) (scN i) (scF i)) ∧ (∀ q ∈ scL, vk_R q.1 q.2.1 q.2.2.1 (k.1 (100 + q.2.2.2)) k.2) ∧ (∃ a, ∀ w ∈ lw_tbl, w.before a k.2 = true) ∧
  va_Z "java/lang/String" "COMPACT_STRINGS" "Z" (.int 1) (czA k) k.2 k.2.heap ∧ va_Z "java/lang/StringUTF16" "$assertionsDisabled" "Z" (.int 1) (czA k) k.2 k.2.heap ∧
  va_Zq "jdk/internal/util/Preconditions" "SIOOBE_FORMATTER" "Ljava/util/function/BiFunction;" (czA k) k.2 k.2.heap ∧ va_Zq "java/lang/Throwable" "SUPPRESSED_SENTINEL" "Ljava/util/List;" (czA k) k.2 k.2.heap ∧ va_Zq "java/lang/Throwable" "UNASSIGNED_STACK" "[Ljava/lang/StackTraceElement;" (czA k) k.2 k.2.heap
theorem va_Z.old {D : va_G} {k : KK} {s : State} {A : Nat → Prop} {H : Heap} {C n d : String} {v : Value} (h : va_Z C n d v (czA k) k.2 k.2.heap) (hg : gx D k s) (hO : oldY k A H) : va_Z C n d v A s H := va_Z.narrow (va_Z.kept (va_Z.moved hg.alike h) (fun q hq _ => hO.1 q hq)) (fun q z => hO.2 q z)
theorem va_Zq.old {D : va_G} {k : KK} {s : State} {A : Nat → Prop} {H : Heap} {C n d : String} (h : va_Zq C n d (czA k) k.2 k.2.heap) (hg : gx D k s) (hO : oldY k A H) : va_Zq C n d A s H := va_Zq.narrow (va_Zq.kept (va_Zq.moved hg.alike h) (fun q hq _ => hO.1 q hq)) (fun q z => hO.2 q z)
section XS
variable {p : Program} {l : Launch} {e : Env} {R : Room} {s : State} {m : MethodId} {args : Array Value} {below : List Frame} {meth : Method} {c : Code} {H : Heap} {locs : List Loc} {cells slots : Nat} {Q : State → Prop}
variable {cc : ByteArray} {pc : Nat} {ls : Array Slot} {rest : List Value} {D : va_G} {A : Nat → Prop} {a av n : Nat} {bs : Nat → Int32} {k : KK} {ws : va_W} {H0 : Heap}
/-- getfield value, coder of a String that is only read -/
theorem xs_val (hexec : p.tables.exec = Jvm.exec) (hb : c.code = cc) {own : String} {index : Nat} (hts : ∀ w ∈ lw_all, w.before args s = true) (hown : s.vm.findClass own = some m.cls) (hg : gx D k s) (hs : sOY D a av A H) (hlink : (Cond.fieldLink own index "java/lang/String" "value" "[B").before args s = true) (hdg : decode cc pc = .ok (.getfield index, 3))
    (kk : W p l e R s m args below meth c H locs cells slots Q (F0 m (pc + 3) ls (.ref av :: rest))) : W p l e R s m args below meth c H locs cells slots Q (F0 m pc ls (.ref a :: rest)) := by
  obtain ⟨cell, q1, q2, q3, q4, q5, q6, -⟩ := hs
  obtain ⟨hSl, hfc, kC, hkC, hkind⟩ := hg.1.1 12 _ rfl
  obtain ⟨cf, kf, fi, f, hi, hsl⟩ := hSl 0 (by decide)
  exact W.getf hexec hb hown hlink hi (u_facts hfc hkC (u_lays hts in_J3 (k := 0) (by decide)) hi).1 q1 q4 (v := .ref av) (by rw [hsl]; exact q5) rfl rfl hdg kk
theorem xs_cod (hexec : p.tables.exec = Jvm.exec) (hb : c.code = cc) {own : String} {index : Nat} (hts : ∀ w ∈ lw_all, w.before args s = true) (hown : s.vm.findClass own = some m.cls) (hg : gx D k s) (hs : sOY D a av A H) (hlink : (Cond.fieldLink own index "java/lang/String" "coder" "B").before args s = true) (hdg : decode cc pc = .ok (.getfield index, 3))
    (kk : W p l e R s m args below meth c H locs cells slots Q (F0 m (pc + 3) ls (.int 0 :: rest))) : W p l e R s m args below meth c H locs cells slots Q (F0 m pc ls (.ref a :: rest)) := by
  obtain ⟨cell, q1, q2, q3, q4, q5, q6, -⟩ := hs
  obtain ⟨hSl, hfc, kC, hkC, hkind⟩ := hg.1.1 12 _ rfl
  obtain ⟨cf, kf, fi, f, hi, hsl⟩ := hSl 1 (by decide)
  exact W.getf hexec hb hown hlink hi (u_facts hfc hkC (u_lays hts in_J3 (k := 1) (by decide)) hi).1 q1 q4 (v := .int 0) (by rw [hsl]; exact q6) rfl rfl hdg kk
theorem xs_alen (hexec : p.tables.exec = Jvm.exec) (hb : c.code = cc) (hg : gx D k s) (hs : sAY k av n bs A H) (hdg : decode cc pc = .ok (.arraylength, 1))
    (kk : W p l e R s m args below meth c H locs cells slots Q (F0 m (pc + 1) ls (.int (nI n) :: rest))) : W p l e R s m args below meth c H locs cells slots Q (F0 m pc ls (.ref av :: rest)) := by
  obtain ⟨cell, h1, h2, h3, h4, h5, h6, h7⟩ := hs
  exact W.alen (n := nI n) hexec hb h1 (State.isArrayOf_alike hg.alike h2) h5 rfl rfl hdg kk
theorem xs_bald (hexec : p.tables.exec = Jvm.exec) (hb : c.code = cc) (hg : gx D k s) (hs : sAY k av n bs A H) {i : Int32} {j : Nat} (hi : i = nI j) (hj : j < n) (hn : n < 2 ^ 31) (hdg : decode cc pc = .ok (.baload, 1))
    (kk : W p l e R s m args below meth c H locs cells slots Q (F0 m (pc + 1) ls (.int (bs j) :: rest))) : W p l e R s m args below meth c H locs cells slots Q (F0 m pc ls (.int i :: .ref av :: rest)) := by
  obtain ⟨cell, h1, h2, h3, h4, h5, h6, h7⟩ := hs
  have e1 : (nI j).toNatClampNeg = j := nI_clamp (by omega)
  have e2 : ¬ nI j < 0 := nI_pos (by omega)
  subst hi
  exact W.bald hexec hb h1 (State.isArrayOf_alike hg.alike h2) h3 (fun z => by rcases z with z | z; exact e2 z; omega) (by rw [e1]; exact h6 j hj) rfl rfl hdg kk
theorem sOY.recv (hg : gx D k s) (hs : sOY D a av A H) : ∃ cell : Cell, H[a]? = some cell ∧ cell.vm.isStatics = false ∧ s.vm.findClass "java/lang/String" = some cell.cls := by
  obtain ⟨cell, q1, q2, q3, -⟩ := hs
  obtain ⟨hSl, hfc, -⟩ := hg.1.1 12 _ rfl
  exact ⟨cell, q1, q3, by rw [q2]; exact hfc⟩
/-- a String constant -/
theorem xs_ldc (hexec : p.tables.exec = Jvm.exec) (hb : c.code = cc) (hz : cz k) (hg : gx D k s) {own tx : String} {index i : Nat} (hown : s.vm.findClass own = some m.cls) (hq : (own, index, tx, i) ∈ scL) (hdg : decode cc pc = .ok (.ldc index, 2))
    (kk : W p l e R s m args below meth c H locs cells slots Q (F0 m (pc + 2) ls (.ref (k.1 (100 + i)) :: rest))) : W p l e R s m args below meth c H locs cells slots Q (F0 m pc ls rest) := va_ldcS hexec hb hown (vk_R.warm hg.warm (hz.2.1 _ hq)) hdg kk
theorem xs_ldcw (hexec : p.tables.exec = Jvm.exec) (hb : c.code = cc) (hz : cz k) (hg : gx D k s) {own tx : String} {index i : Nat} (hown : s.vm.findClass own = some m.cls) (hq : (own, index, tx, i) ∈ scL) (hdg : decode cc pc = .ok (.ldc_w index, 3))
    (kk : W p l e R s m args below meth c H locs cells slots Q (F0 m (pc + 3) ls (.ref (k.1 (100 + i)) :: rest))) : W p l e R s m args below meth c H locs cells slots Q (F0 m pc ls rest) := by
  obtain ⟨hconst, hev⟩ := vk_R.warm hg.warm (hz.2.1 _ hq)
  intro T hT X
  obtain ⟨t, a1, b1⟩ := kk T hT X
  refine ⟨t, ?_, b1⟩
  obtain ⟨k0, cf, i0, a', hk, hcf, hcp, -, hr, hev'⟩ := Cond.stringRef_spec hown hconst
  cases hev.symm.trans hev'
  obtain ⟨k', hk', he⟩ := X.warmed.alike.2.2 _ _ hk
  have hr' : k'.resolved[index]? = some (some (.string (k.1 (100 + i)))) := by
    rcases X.warmed.entry hk hk' index with h | ⟨h, -⟩
    · rw [h]; exact hr
    · rw [hr] at h; cases h
  have hdg' : decode c.code pc = .ok (.ldc_w index, 3) := by rw [hb]; exact hdg
  jvm_step X.here [hexec, hdg', Jvm.Op.ldc_w.wp_string (e := e) (s := T) (f := F0 m pc ls rest) X.here.top hk' (by rw [he]; exact hcf) hcp hr']
  exact a1
end XS
section XR
variable {p : Program} {l : Launch} {e : Env} {R : Room} {s : State} {m : MethodId} {args : Array Value} {below : List Frame} {meth : Method} {c : Code} {H : Heap} {locs : List Loc} {cells slots : Nat}
variable {k : KK} {y : MethodName} {bytes cc : ByteArray} {maxL nL mc ms index : Nat} {ret : Option FieldType} {rm : Room} {Y : Heap → Prop} {Qc : Array Value → State → Outcome → State → Prop} {free : Addr → Prop} {own : String} {b : Addr} {As rest : List Value} {pc : Nat} {ls : Array Slot} {D : va_G} {ws wc : va_W} {A0 : Nat → Prop}
/-- invokevirtual upon a String that is only read -/
theorem xrVs (S : CallFix p m c cc nL s args lw_all own) (hg : gx D k s) (hM : Met l y (ws_ y bytes maxL ret) rm (pcx D k (.ref b :: As) H.size wc Y) Qc mc ms free) (hP : va_P D vwCl ws H) (hD : va_D A0 ws) (isC : List Nat) (hC : isC.map (fun i => ws[i]?) = wc.map some) (hnd : va_nd isC = true) (hY : Y H) (hrec : ∃ cell : Cell, H[b]? = some cell ∧ cell.vm.isStatics = false ∧ s.vm.findClass y.cls = some cell.cls)
    (h1 : Cond.methodLink own index y ∈ lw_all) (h2 : Cond.instanceMethod y ∈ lw_all) (h3 : Cond.selects y.cls y y ∈ lw_all) (h4 : Cond.initialized y.cls ∈ lw_all) (h5 : Cond.code y bytes maxL ret ∈ lw_all) (ho : xok y As.length) (hrm : rm.cells = mc ∧ rm.slots = ms) (hR : rm.frames + 1 ≤ R.frames ∧ 8 + (maxL + 11) + rm.locals ≤ R.locals)
    (hsz : ls.size = nL) (hW : (rest.map fun v => v.category).sum ≤ 8) (hdg : decode cc pc = .ok (.invokevirtual index, 3)) (hf : cells + mc ≤ R.cells ∧ slots + ms ≤ R.slots) {st0 : List Value} (hst : st0 = As.reverse ++ .ref b :: rest) :
    va_Run p l e R s m args below meth c H locs cells slots mc ms (F0 m pc ls st0) rest (Qc (Value.ref b :: As).toArray) free := by
  obtain ⟨cell, hc1, hc2, hc3⟩ := hrec
  exact va_runV S hM (cwV As.length S.2.2.2.2 (lw_V h1 h2 h3 h4 h5) rfl hrm.1 hrm.2 ⟨rfl, ho⟩ hR) ⟨pcx.blind, ⟨cell, hc1, hc2, hc3⟩, pcx.at (av := .ref b :: As) hg (hP.cut isC hC) (hD.sub isC hnd hC) hY⟩ rfl rfl hsz hst (lv_room (rest := st0) hW) hdg hf
end XR
section XN
variable {p : Program} {l : Launch} {e : Env} {R : Room} {s : State} {m : MethodId} {args : Array Value} {below : List Frame} {meth : Method} {c : Code} {H : Heap} {locs : List Loc} {cells slots : Nat} {Q : State → Prop}
variable {cc : ByteArray} {pc : Nat} {ls : Array Slot} {rest : List Value}
/-- the end of a method that answers a char or a byte -/
theorem xret_n {Qc : Array Value → State → Outcome → State → Prop} {free : Addr → Prop} {v : Int32} {ty : FieldType} {mc ms : Nat} (hexec : p.tables.exec = Jvm.exec) (hb : c.code = cc) (hr : meth.sig.returnType = some ty) (hlocks : meth.locks = false) (h1 : cells ≤ mc) (h2 : slots ≤ ms) (hf : ∀ q ∈ locs, free q.base) (hdg : decode cc pc = .ok (.ireturn, 1)) (hv : narrow ty (.int v) = .int v)
    (hq : ∀ t : State, t.heap = H → Qc args s (.returned (some (.int v))) t) : W p l e R s m args below meth c H locs cells slots (MQ below Qc args s mc ms free) (F0 m pc ls [.int v]) :=
  W.widen h1 h2 (W.zret hexec hb hr hv (fun t ht _ => hq t ht) hf hdg hlocks)
end XN
theorem va_Zq.two {C n d : String} {A : Nat → Prop} {U : State} {H : Heap} (h : va_Zq C n d A U H) {G : Prop} (h0 : va_Z C n d .null A U H → G) (h1 : ∀ t : Nat, va_Z C n d (.ref t) A U H → G) : G := by
  rcases h with h | ⟨t, h⟩
  · exact h0 h
  · exact h1 t h
