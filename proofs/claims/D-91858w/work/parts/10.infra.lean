set_option maxRecDepth 100000
/-! THE COMMON GROUND: one list of classes, one list of array classes, the nest mates' words, a contract's start, calls in one row -/
abbrev vwCl : List vw_C := [(RX1, TX1, 29), (RX2, TX2, 10), (RX3, TX3, 8), (RX4, TX4, 18), (RX5, TX5, 3), (RX6, TX6, 2), (RX7, TX7, 3), (RX9, TX9, 13), (RX11, TX11, 3), (RX12, TX12, 3), (RX8, TX8, 37), (RX13, TX13, 18), (RJ3, TJ3, 4), (RJ9, TJ9, 6)]
/-- the class ids of arrays, and the state in which all began -/
abbrev KK : Type := (Nat → ClassId) × State
abbrev kTys (k : KK) : List (ClassId × FieldType) := [(k.1 0, .int), (k.1 1, .byte), (k.1 2, .char), (k.1 3, .long), (k.1 4, .object "RoarMill$Settings"), (k.1 5, .object "RoarMill$State"), (k.1 6, .object "RoarMill$Size"), (k.1 7, .object "RoarMill$Ore")]
abbrev nwF : List (Nat × String × String) := [(176, "room", "I"), (233, "loud", "I"), (181, "sieve", "I"), (248, "slips", "I"), (183, "life", "I"), (186, "bin", "I"), (252, "draws", "I"), (188, "prices", "I"), (191, "sizes", "I"), (194, "ores", "I"), (259, "names", "I"), (254, "price", "[I"), (267, "breaks", "[I"), (270, "next", "[I"), (276, "hard", "[I"), (278, "tons", "[I"), (256, "name", "[J"), (243, "sense", "[I")]
abbrev nwM : List (String × Nat × MethodName × String) := [("RoarMill", 28, yX4_init, "RoarMill"), ("RoarMill", 38, yX5_init, "RoarMill"), ("RoarMill", 84, yX6_init, "RoarMill"), ("RoarMill", 94, yX7_init, "RoarMill"), ("RoarMill$Reader", 119, yX9_init, "RoarMill"), ("RoarMill$Reader", 36, yX1_in, "RoarMill"), ("RoarMillModel", 286, yX13_init, "RoarMillModel")]
def xFollows : MethodName := ⟨"RoarMill$Follows", "goes", "(LRoarMill$Works;ZIII)V"⟩
/-- the words that don't ride in the lists -/
def nw (k : KK) (U : State) : Prop := (∀ q ∈ nwF, va_Nw (.fieldLinkNest "RoarMillModel" q.1 "RoarMillModel$Mill" q.2.1 q.2.2 "RoarMillModel") U) ∧ (∀ q ∈ nwM, va_Nw (.methodLinkNest q.1 q.2.1 q.2.2.1 q.2.2.2) U) ∧ va_Fw "RoarMill$Led" xFollows yX7_goes U ∧ va_AO "RoarMill$Settings" U ∧ va_AO "RoarMill$State" U ∧ va_AO "RoarMill$Size" U ∧ va_AO "RoarMill$Ore" U ∧ k.2.WarmedH U.vm
theorem nw.moved {k : KK} {s U : State} (hW : s.WarmedH U.vm) (h : nw k s) : nw k U := by
  obtain ⟨h1, h2, h3, h4, h5, h6, h7, h8⟩ := h
  exact ⟨fun q hq => va_Nw.warmF hW (h1 q hq), fun q hq => va_Nw.warmM hW (h2 q hq), va_Fw.moved (by decide) hW.alike h3, va_AO.moved hW.alike h4, va_AO.moved hW.alike h5, va_AO.moved hW.alike h6, va_AO.moved hW.alike h7, State.WarmedH.trans h8 hW⟩
/-- what holds of the tables all through -/
def gx (D : va_G) (k : KK) (U : State) : Prop := va_K D vwCl (kTys k) U ∧ nw k U
theorem gx.moved {D : va_G} {k : KK} {s U : State} (hW : s.WarmedH U.vm) (h : gx D k s) : gx D k U := ⟨va_K.moved hW.alike h.1, h.2.moved hW⟩
theorem gx.calling {D : va_G} {k : KK} {U : State} {g : JFrame} {mk : MethodId} {a : Array Value} (h : gx D k U) : gx D k (U.calling g mk a) := gx.moved (s := U) (U := U.calling g mk a) (State.WarmedH.refl U) h
/-- a contract's start -/
def pcx (D : va_G) (k : KK) (av : List Value) (sz : Nat) (ws : va_W) (Y : Heap → Prop) : Array Value → State → Prop := va_Pc av (fun U => U.heap.size = sz ∧ va_P D vwCl ws U.heap ∧ gx D k U ∧ va_D (fun _ => True) ws ∧ Y U.heap)
theorem pcx.blind {D : va_G} {k : KK} {av : List Value} {sz : Nat} {ws : va_W} {Y : Heap → Prop} : FrameBlind (pcx D k av sz ws Y) := by
  intro a U g mk h
  obtain ⟨h1, h2, h3, h4, h5, h6⟩ := h
  exact ⟨h1, h2, h3, h4.calling, h5, h6⟩
theorem pcx.at {D : va_G} {k : KK} {av : List Value} {ws : va_W} {Y : Heap → Prop} {s : State} {H : Heap} {A : Nat → Prop} (hg : gx D k s) (hP : va_P D vwCl ws H) (hD : va_D A ws) (hY : Y H) : ∀ U : State, U.heap = H → s.WarmedH U.vm → pcx D k av H.size ws Y av.toArray U := by
  intro U hU hW
  exact ⟨rfl, by rw [hU], by rw [hU]; exact hP, hg.moved hW, hD.weaken (fun _ _ _ _ => trivial), by rw [hU]; exact hY⟩
/-- a contract's end: the world behind -/
abbrev bx {S : Type} (D : va_G) (W1 : S → va_W) (A : Nat → Prop) : S → State → Prop := fun u t => va_P D vwCl (W1 u) t.heap ∧ va_D A (W1 u)
theorem va_P.cut {D : va_G} {cl : List vw_C} {ws wc : va_W} {H : Heap} (h : va_P D cl ws H) (is : List Nat) (hs : is.map (fun i => ws[i]?) = wc.map some) : va_P D cl wc H := by
  intro k q hk
  obtain ⟨i, -, hi⟩ := va_in_of is hs hk
  exact h i q hi
/-- the machine's W under a weaker end -/
theorem W.mono {p : Program} {l : Launch} {e : Env} {R : Room} {s : State} {m : MethodId} {args : Array Value} {below : List Frame} {meth : Method} {c : Code} {H : Heap} {locs : List Loc} {cells slots : Nat} {Q Q2 : State → Prop} {g : JFrame} (h : ∀ t, Q t → Q2 t) (k : W p l e R s m args below meth c H locs cells slots Q g) : W p l e R s m args below meth c H locs cells slots Q2 g := by
  intro T hT X
  obtain ⟨t, a, b⟩ := k T hT X
  exact ⟨t, a, h t b⟩
/-- a contract out of its body -/
theorem Met.start {l : Launch} {D : va_G} {k : KK} {y : MethodName} {cc : ByteArray} {maxL : Nat} {ret : Option FieldType} {rm : Room} {av : List Value} {sz : Nat} {ws : va_W} {Y : Heap → Prop} {Qc : (Nat → Prop) → Array Value → State → Outcome → State → Prop} {mc ms : Nat}
    (hy : plainName y.cls = true) (hav : (lg_sl av).length ≤ maxL)
    (body : ∀ (p : Program) (e : Env) (s : State) (m : MethodId) (below : List Frame) (meth : Method) (c : Code) (A : Nat → Prop), p.tables.exec = Jvm.exec → c.code = cc → meth.sig.returnType = ret → meth.locks = false → c.maxLocals = maxL → s.vm.findClass y.cls = some m.cls → meth.name = y.name → (∀ w ∈ lw_all, w.before av.toArray s = true) → gx D k s → va_P D vwCl ws s.heap → va_D A ws → (∀ q : Nat, s.heap.size ≤ q → A q) → (∀ q, A q → va_A ws sz q) → va_S A s.heap s.heap [] → Y s.heap → sz = s.heap.size →
      ∀ ls : Array Slot, lv_has ls maxL (lv_args 0 av) → W p l e rm s m av.toArray below meth c s.heap [] 0 0 (MQ below (Qc A) av.toArray s mc ms A) (F0 m 0 ls [])) :
    Met l y (ws_ y cc maxL ret) rm (pcx D k av sz ws Y) (Qc (va_A ws sz)) mc ms (va_A ws sz) := by
  refine Met.ofW (cc := cc) (maxL := maxL) (ret := ret) hy rfl ?_
  intro p e s m args below meth c s₁ B hml hv
  obtain ⟨rfl, hsz, hP, hg, hD0, hY⟩ := hv
  have hts := atoms_spec (ws := ws_ y cc maxL ret) B.pre
  have hts : ∀ w ∈ lw_all, w.before _ s = true := fun w h => hts w (List.mem_cons_of_mem _ h)
  subst hsz
  have hl := lv_entry av (n := maxL) hav
  rw [lg_entry_eq]
  exact body p e s m below meth c (va_A ws s.heap.size) B.exec B.bytes B.returns B.notSynchronized hml (findClass_of_methodNamed B.named) (name_of_methodNamed B.named B.method).1 hts hg hP hD0.self (fun q h => Or.inr h) (fun q h => h) va_S.rf hY rfl _ hl
section XC
variable {p : Program} {l : Launch} {e : Env} {R : Room} {s : State} {m : MethodId} {args : Array Value} {below : List Frame} {meth : Method} {c : Code} {H : Heap} {locs : List Loc} {cells slots : Nat} {Q : State → Prop}
variable {pc : Nat} {ls : Array Slot} {rest st0 : List Value} {a : Array Value} {A0 : Nat → Prop} {H0 : Heap} {mc ms : Nat} {D : va_G} {ws wc wr : va_W}
theorem xc_i {S : Type} {post : Int32 → S → Prop} {W1 : S → va_W} (hP : va_P D vwCl ws H) (hD : va_D A0 ws) (hS : va_S A0 H0 H locs) (hA : ∀ q, H0.size ≤ q → A0 q) (isC isR : List Nat) (hC : isC.map (fun i => ws[i]?) = wc.map some) (hR : isR.map (fun i => ws[i]?) = wr.map some) (hn : va_nd isR = true) (hdis : ∀ i ∈ isR, i ∉ isC)
    (hr : va_Run p l e R s m args below meth c H locs cells slots mc ms (F0 m pc ls st0) rest (va_Qi post (bx D W1 (va_A wc H.size)) (va_A wc H.size) a) (va_A wc H.size))
    (kk : ∀ (r : Int32) (u : S) (H1 : Heap) (locs1 : List Loc), post r u → va_P D vwCl (wr ++ W1 u) H1 → va_D A0 (wr ++ W1 u) → va_S A0 H0 H1 locs1 → (∀ q : Nat, q < H.size → ¬ va_A wc H.size q → H1[q]? = H[q]?) → W p l e R s m args below meth c H1 locs1 (cells + mc) (slots + ms) Q (F0 m (pc + 3) ls (.int r :: rest))) : W p l e R s m args below meth c H locs cells slots Q (F0 m pc ls st0) := by
  have hF := va_free (wc := wc) hD hS hA isC hC
  refine va_calli hr hS (fun q _ h => hF q h) hF (fun r u t H1 locs1 ht hvm hp hB hz hk hS1 => ?_)
  obtain ⟨hP1, hD1⟩ := hB
  rw [ht] at hP1
  obtain ⟨hP2, hD2⟩ := va_join hP hD isC isR hC hR hn hdis hk hF hP1 hD1
  exact kk r u H1 locs1 hp hP2 hD2 hS1 hk
theorem xc_l {S : Type} {post : Int64 → S → Prop} {W1 : S → va_W} (hP : va_P D vwCl ws H) (hD : va_D A0 ws) (hS : va_S A0 H0 H locs) (hA : ∀ q, H0.size ≤ q → A0 q) (isC isR : List Nat) (hC : isC.map (fun i => ws[i]?) = wc.map some) (hR : isR.map (fun i => ws[i]?) = wr.map some) (hn : va_nd isR = true) (hdis : ∀ i ∈ isR, i ∉ isC)
    (hr : va_Run p l e R s m args below meth c H locs cells slots mc ms (F0 m pc ls st0) rest (va_Ql post (bx D W1 (va_A wc H.size)) (va_A wc H.size) a) (va_A wc H.size))
    (kk : ∀ (r : Int64) (u : S) (H1 : Heap) (locs1 : List Loc), post r u → va_P D vwCl (wr ++ W1 u) H1 → va_D A0 (wr ++ W1 u) → va_S A0 H0 H1 locs1 → (∀ q : Nat, q < H.size → ¬ va_A wc H.size q → H1[q]? = H[q]?) → W p l e R s m args below meth c H1 locs1 (cells + mc) (slots + ms) Q (F0 m (pc + 3) ls (.long r :: rest))) : W p l e R s m args below meth c H locs cells slots Q (F0 m pc ls st0) := by
  have hF := va_free (wc := wc) hD hS hA isC hC
  refine va_calll hr hS (fun q _ h => hF q h) hF (fun r u t H1 locs1 ht hvm hp hB hz hk hS1 => ?_)
  obtain ⟨hP1, hD1⟩ := hB
  rw [ht] at hP1
  obtain ⟨hP2, hD2⟩ := va_join hP hD isC isR hC hR hn hdis hk hF hP1 hD1
  exact kk r u H1 locs1 hp hP2 hD2 hS1 hk
theorem xc_v {S : Type} {post : S → Prop} {W1 : S → va_W} (hP : va_P D vwCl ws H) (hD : va_D A0 ws) (hS : va_S A0 H0 H locs) (hA : ∀ q, H0.size ≤ q → A0 q) (isC isR : List Nat) (hC : isC.map (fun i => ws[i]?) = wc.map some) (hR : isR.map (fun i => ws[i]?) = wr.map some) (hn : va_nd isR = true) (hdis : ∀ i ∈ isR, i ∉ isC)
    (hr : va_Run p l e R s m args below meth c H locs cells slots mc ms (F0 m pc ls st0) rest (va_Qv post (bx D W1 (va_A wc H.size)) (va_A wc H.size) a) (va_A wc H.size))
    (kk : ∀ (u : S) (H1 : Heap) (locs1 : List Loc), post u → va_P D vwCl (wr ++ W1 u) H1 → va_D A0 (wr ++ W1 u) → va_S A0 H0 H1 locs1 → (∀ q : Nat, q < H.size → ¬ va_A wc H.size q → H1[q]? = H[q]?) → W p l e R s m args below meth c H1 locs1 (cells + mc) (slots + ms) Q (F0 m (pc + 3) ls rest)) : W p l e R s m args below meth c H locs cells slots Q (F0 m pc ls st0) := by
  have hF := va_free (wc := wc) hD hS hA isC hC
  refine va_callv hr hS (fun q _ h => hF q h) hF (fun u t H1 locs1 ht hvm hp hB hz hk hS1 => ?_)
  obtain ⟨hP1, hD1⟩ := hB
  rw [ht] at hP1
  obtain ⟨hP2, hD2⟩ := va_join hP hD isC isR hC hR hn hdis hk hF hP1 hD1
  exact kk u H1 locs1 hp hP2 hD2 hS1 hk
theorem xc_q {S : Type} {post : Option Nat → S → Prop} {W1 : S → va_W} (hP : va_P D vwCl ws H) (hD : va_D A0 ws) (hS : va_S A0 H0 H locs) (hA : ∀ q, H0.size ≤ q → A0 q) (isC isR : List Nat) (hC : isC.map (fun i => ws[i]?) = wc.map some) (hR : isR.map (fun i => ws[i]?) = wr.map some) (hn : va_nd isR = true) (hdis : ∀ i ∈ isR, i ∉ isC)
    (hr : va_Run p l e R s m args below meth c H locs cells slots mc ms (F0 m pc ls st0) rest (va_Qq post (bx D W1 (va_A wc H.size)) (va_A wc H.size) a) (va_A wc H.size))
    (kk : ∀ (r : Option Nat) (u : S) (H1 : Heap) (locs1 : List Loc), post r u → va_P D vwCl (wr ++ W1 u) H1 → va_D A0 (wr ++ W1 u) → va_S A0 H0 H1 locs1 → (∀ q : Nat, q < H.size → ¬ va_A wc H.size q → H1[q]? = H[q]?) → W p l e R s m args below meth c H1 locs1 (cells + mc) (slots + ms) Q (F0 m (pc + 3) ls (va_rf r :: rest))) : W p l e R s m args below meth c H locs cells slots Q (F0 m pc ls st0) := by
  have hF := va_free (wc := wc) hD hS hA isC hC
  refine va_callq hr hS (fun q _ h => hF q h) hF (fun r u t H1 locs1 ht hvm hp hB hz hk hS1 => ?_)
  obtain ⟨hP1, hD1⟩ := hB
  rw [ht] at hP1
  obtain ⟨hP2, hD2⟩ := va_join hP hD isC isR hC hR hn hdis hk hF hP1 hD1
  exact kk r u H1 locs1 hp hP2 hD2 hS1 hk
end XC
section XR
variable {p : Program} {l : Launch} {e : Env} {R : Room} {s : State} {m : MethodId} {args : Array Value} {below : List Frame} {meth : Method} {c : Code} {H : Heap} {locs : List Loc} {cells slots : Nat}
variable {k : KK} {y : MethodName} {bytes cc : ByteArray} {maxL nL mc ms index : Nat} {ret : Option FieldType} {rm : Room} {Y : Heap → Prop} {Qc : Array Value → State → Outcome → State → Prop} {free : Addr → Prop} {own : String} {b : Addr} {As rest : List Value} {pc : Nat} {ls : Array Slot} {D : va_G} {ws wc : va_W} {A0 : Nat → Prop}
/-- what a call asks of the numbers: decided by the kernel -/
def xok (y : MethodName) (n : Nat) : Prop := y.cls ≠ "java/lang/invoke/MethodHandle" ∧ y.cls ≠ "java/lang/invoke/VarHandle" ∧ (parseMethodDescriptor y.desc).map (fun d => d.parameters.length) = some n
/-- invokevirtual -/
theorem xrV (S : CallFix p m c cc nL s args lw_all own) (hg : gx D k s) (hM : Met l y (ws_ y bytes maxL ret) rm (pcx D k (.ref b :: As) H.size wc Y) Qc mc ms free) (hP : va_P D vwCl ws H) (hD : va_D A0 ws) (isC : List Nat) (hC : isC.map (fun i => ws[i]?) = wc.map some) (hnd : va_nd isC = true) (hY : Y H) {ci q0 : Nat} {fs : List Value} {q : vw_C} (hc : vwCl[ci]? = some q) (he : ws[q0]? = some (b, .inr (ci, fs))) (hq : q.1 = y.cls)
    (h1 : Cond.methodLink own index y ∈ lw_all) (h2 : Cond.instanceMethod y ∈ lw_all) (h3 : Cond.selects y.cls y y ∈ lw_all) (h4 : Cond.initialized y.cls ∈ lw_all) (h5 : Cond.code y bytes maxL ret ∈ lw_all) (ho : xok y As.length) (hrm : rm.cells = mc ∧ rm.slots = ms) (hR : rm.frames + 1 ≤ R.frames ∧ 8 + (maxL + 11) + rm.locals ≤ R.locals)
    (hsz : ls.size = nL) (hW : (rest.map fun v => v.category).sum ≤ 8) (hdg : decode cc pc = .ok (.invokevirtual index, 3)) (hf : cells + mc ≤ R.cells ∧ slots + ms ≤ R.slots) {st0 : List Value} (hst : st0 = As.reverse ++ .ref b :: rest) :
    va_Run p l e R s m args below meth c H locs cells slots mc ms (F0 m pc ls st0) rest (Qc (Value.ref b :: As).toArray) free := by
  obtain ⟨cell, hc1, hc2, hc3⟩ := va_recv hg.1 hP hc he
  exact va_runV S hM (cwV As.length S.2.2.2.2 (lw_V h1 h2 h3 h4 h5) rfl hrm.1 hrm.2 ⟨rfl, ho⟩ hR) ⟨pcx.blind, ⟨cell, hc1, hc2, by rw [← hq]; exact hc3⟩, pcx.at (av := .ref b :: As) hg (hP.cut isC hC) (hD.sub isC hnd hC) hY⟩ rfl rfl hsz hst (lv_room (rest := st0) hW) hdg hf
/-- invokestatic -/
theorem xrS (S : CallFix p m c cc nL s args lw_all own) (hg : gx D k s) (hM : Met l y (ws_ y bytes maxL ret) rm (pcx D k As H.size wc Y) Qc mc ms free) (hP : va_P D vwCl ws H) (hD : va_D A0 ws) (isC : List Nat) (hC : isC.map (fun i => ws[i]?) = wc.map some) (hnd : va_nd isC = true) (hY : Y H)
    (h1 : Cond.methodLink own index y ∈ lw_all) (h2 : Cond.static y ∈ lw_all) (h3 : Cond.initialized y.cls ∈ lw_all) (h5 : Cond.code y bytes maxL ret ∈ lw_all) (ho : xok y As.length) (hrm : rm.cells = mc ∧ rm.slots = ms) (hR : rm.frames + 1 ≤ R.frames ∧ 8 + (maxL + 11) + rm.locals ≤ R.locals)
    (hsz : ls.size = nL) (hW : (rest.map fun v => v.category).sum ≤ 8) (hdg : decode cc pc = .ok (.invokestatic index, 3)) (hf : cells + mc ≤ R.cells ∧ slots + ms ≤ R.slots) {st0 : List Value} (hst : st0 = As.reverse ++ rest) :
    va_Run p l e R s m args below meth c H locs cells slots mc ms (F0 m pc ls st0) rest (Qc As.toArray) free :=
  va_runS S hM (va_cwS As.length S.2.2.2.2 (lw_S h1 h2 h3 h5) rfl hrm.1 hrm.2 ho hR) ⟨pcx.blind, pcx.at (av := As) hg (hP.cut isC hC) (hD.sub isC hnd hC) hY⟩ rfl rfl hsz hst (lv_room (rest := st0) hW) hdg hf
/-- invokespecial of a constructor -/
theorem xrI (S : CallFix p m c cc nL s args lw_all own) (hg : gx D k s) (hM : Met l y (ws_ y bytes maxL none) rm (pcx D k (.ref b :: As) H.size wc Y) Qc mc ms free) (hP : va_P D vwCl ws H) (hD : va_D A0 ws) (isC : List Nat) (hC : isC.map (fun i => ws[i]?) = wc.map some) (hnd : va_nd isC = true) (hY : Y H)
    (h1 : Cond.methodLink own index y ∈ lw_all) (h2 : Cond.instanceMethod y ∈ lw_all) (h3 : Cond.initialized y.cls ∈ lw_all) (h5 : Cond.code y bytes maxL none ∈ lw_all) (hyn : y.name = "<init>") (ho : xok y As.length) (hrm : rm.cells = mc ∧ rm.slots = ms) (hR : rm.frames + 1 ≤ R.frames ∧ 8 + (maxL + 11) + rm.locals ≤ R.locals)
    (hsz : ls.size = nL) (hW : (rest.map fun v => v.category).sum ≤ 8) (hdg : decode cc pc = .ok (.invokespecial index, 3)) (hf : cells + mc ≤ R.cells ∧ slots + ms ≤ R.slots) {st0 : List Value} (hst : st0 = As.reverse ++ .ref b :: rest) :
    va_Run p l e R s m args below meth c H locs cells slots mc ms (F0 m pc ls st0) rest (Qc (Value.ref b :: As).toArray) free :=
  va_runI S hM (cwI As.length S.2.2.2.2 (lw_meth h5) rfl hrm.1 hrm.2 (S.2.2.2.2 _ h3) (S.2.2.2.2 _ h1) (S.2.2.2.2 _ h2) hyn ho hR) ⟨pcx.blind, pcx.at (av := .ref b :: As) hg (hP.cut isC hC) (hD.sub isC hnd hC) hY⟩ rfl rfl hsz hst (lv_room (rest := st0) hW) hdg hf
/-- invokespecial of a nest mate's private constructor -/
theorem xrIN {host : String} (S : CallFix p m c cc nL s args lw_all own) (hg : gx D k s) (hM : Met l y (ws_ y bytes maxL none) rm (pcx D k (.ref b :: As) H.size wc Y) Qc mc ms free) (hP : va_P D vwCl ws H) (hD : va_D A0 ws) (isC : List Nat) (hC : isC.map (fun i => ws[i]?) = wc.map some) (hnd : va_nd isC = true) (hY : Y H)
    (h1 : va_Nw (.methodLinkNest own index y host) s) (h2 : Cond.instanceMethod y ∈ lw_all) (h3 : Cond.initialized y.cls ∈ lw_all) (h5 : Cond.code y bytes maxL none ∈ lw_all) (hyn : y.name = "<init>") (ho : xok y As.length) (hrm : rm.cells = mc ∧ rm.slots = ms) (hR : rm.frames + 1 ≤ R.frames ∧ 8 + (maxL + 11) + rm.locals ≤ R.locals)
    (hsz : ls.size = nL) (hW : (rest.map fun v => v.category).sum ≤ 8) (hdg : decode cc pc = .ok (.invokespecial index, 3)) (hf : cells + mc ≤ R.cells ∧ slots + ms ≤ R.slots) {st0 : List Value} (hst : st0 = As.reverse ++ .ref b :: rest) :
    va_Run p l e R s m args below meth c H locs cells slots mc ms (F0 m pc ls st0) rest (Qc (Value.ref b :: As).toArray) free :=
  va_runIN S hM ⟨va_cnB As.length S.2.2.2.2 (lw_meth h5) rfl hrm.1 hrm.2 h1 (S.2.2.2.2 _ h3) ho hR, hyn, S.2.2.2.2 _ h2⟩ ⟨pcx.blind, pcx.at (av := .ref b :: As) hg (hP.cut isC hC) (hD.sub isC hnd hC) hY⟩ rfl rfl hsz hst (lv_room (rest := st0) hW) hdg hf
/-- invokestatic of a nest mate's private method -/
theorem xrSN {host : String} (S : CallFix p m c cc nL s args lw_all own) (hg : gx D k s) (hM : Met l y (ws_ y bytes maxL ret) rm (pcx D k As H.size wc Y) Qc mc ms free) (hP : va_P D vwCl ws H) (hD : va_D A0 ws) (isC : List Nat) (hC : isC.map (fun i => ws[i]?) = wc.map some) (hnd : va_nd isC = true) (hY : Y H)
    (h1 : va_Nw (.methodLinkNest own index y host) s) (h2 : Cond.static y ∈ lw_all) (h3 : Cond.initialized y.cls ∈ lw_all) (h5 : Cond.code y bytes maxL ret ∈ lw_all) (ho : xok y As.length) (hrm : rm.cells = mc ∧ rm.slots = ms) (hR : rm.frames + 1 ≤ R.frames ∧ 8 + (maxL + 11) + rm.locals ≤ R.locals)
    (hsz : ls.size = nL) (hW : (rest.map fun v => v.category).sum ≤ 8) (hdg : decode cc pc = .ok (.invokestatic index, 3)) (hf : cells + mc ≤ R.cells ∧ slots + ms ≤ R.slots) {st0 : List Value} (hst : st0 = As.reverse ++ rest) :
    va_Run p l e R s m args below meth c H locs cells slots mc ms (F0 m pc ls st0) rest (Qc As.toArray) free :=
  va_runSN S hM ⟨va_cnB As.length S.2.2.2.2 (lw_meth h5) rfl hrm.1 hrm.2 h1 (S.2.2.2.2 _ h3) ho hR, S.2.2.2.2 _ h2, trivial⟩ ⟨pcx.blind, pcx.at (av := As) hg (hP.cut isC hC) (hD.sub isC hnd hC) hY⟩ rfl rfl hsz hst (lv_room (rest := st0) hW) hdg hf
end XR
