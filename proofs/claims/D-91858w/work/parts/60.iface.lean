set_option maxRecDepth 100000
section XF
variable {p : Program} {l : Launch} {e : Env} {R : Room} {s : State} {m : MethodId} {args : Array Value} {below : List Frame} {meth : Method} {c : Code} {H : Heap} {locs : List Loc} {cells slots : Nat} {Q : State → Prop}
variable {k : KK} {x y : MethodName} {bytes cc : ByteArray} {maxL nL mc ms index count : Nat} {ret : Option FieldType} {rm : Room} {Y : Heap → Prop} {Qc : Array Value → State → Outcome → State → Prop} {free : Addr → Prop} {own C : String} {cC : ClassId} {b : Addr} {As rest st0 : List Value} {pc : Nat} {ls : Array Slot} {D : va_G} {ws wc wr : va_W} {A0 : Nat → Prop} {H0 : Heap} {a : Array Value}
/-- invokeinterface -/
theorem xrF (hat : ClassAt s C cC) (S : CallFix p m c cc nL s args lw_all own) (hg : gx D k s) (hM : Met l y (ws_ y bytes maxL ret) rm (pcx D k (.ref b :: As) H.size wc Y) Qc mc ms free) (hP : va_P D vwCl ws H) (hD : va_D A0 ws) (isC : List Nat) (hC : isC.map (fun i => ws[i]?) = wc.map some) (hnd : va_nd isC = true) (hY : Y H) {ci q0 : Nat} {fs : List Value} {q : vw_C} (hc : vwCl[ci]? = some q) (he : ws[q0]? = some (b, .inr (ci, fs))) (hq : q.1 = C)
    (h1 : Cond.methodLink own index x ∈ lw_all) (h2 : Cond.selects C x y ∈ lw_all) (h3 : Cond.instanceMethod y ∈ lw_all) (h4 : Cond.initialized y.cls ∈ lw_all) (h5 : Cond.code y bytes maxL ret ∈ lw_all) (hF : va_Fw C x y s) (ho : xok x As.length) (hrm : rm.cells = mc ∧ rm.slots = ms) (hR : rm.frames + 1 ≤ R.frames ∧ 8 + (maxL + 11) + rm.locals ≤ R.locals)
    (hsz : ls.size = nL) (hW : (rest.map fun v => v.category).sum ≤ 8) (hdg : decode cc pc = .ok (.invokeinterface index count, 5)) (hf : cells + mc ≤ R.cells ∧ slots + ms ≤ R.slots) (hst : st0 = As.reverse ++ .ref b :: rest) :
    va_Run5 p l e R s m args below meth c H locs cells slots mc ms (F0 m pc ls st0) rest (Qc (Value.ref b :: As).toArray) free := by
  obtain ⟨cell, hc1, hc2, hc3⟩ := va_recv hg.1 hP hc he
  have hG : GoodIn lw_all (va_wsF own index C x y (ws_ y bytes maxL ret)) := by
    refine lw_app ?_ (lw_meth h5)
    intro w hw
    simp only [List.mem_cons, List.not_mem_nil, or_false] at hw
    rcases hw with z | z | z | z
    · rw [z]; exact h1
    · rw [z]; exact h2
    · rw [z]; exact h3
    · rw [z]; exact h4
  exact va_runF hat S hM (va_cwF As.length S.2.2.2.2 hG rfl hrm.1 hrm.2 hF ho hR) ⟨pcx.blind, ⟨cell, hc1, hc2, by rw [← hq]; exact hc3⟩, pcx.at (av := .ref b :: As) hg (hP.cut isC hC) (hD.sub isC hnd hC) hY⟩ rfl rfl hsz hst (lv_room (rest := st0) hW) hdg hf
theorem xcF_v {S : Type} {post : S → Prop} {W1 : S → va_W} (hP : va_P D vwCl ws H) (hD : va_D A0 ws) (hS : va_S A0 H0 H locs) (hA : ∀ q, H0.size ≤ q → A0 q) (isC isR : List Nat) (hC : isC.map (fun i => ws[i]?) = wc.map some) (hR : isR.map (fun i => ws[i]?) = wr.map some) (hn : va_nd isR = true) (hdis : ∀ i ∈ isR, i ∉ isC)
    (hr : va_Run5 p l e R s m args below meth c H locs cells slots mc ms (F0 m pc ls st0) rest (va_Qv post (bx D W1 (va_A wc H.size)) (va_A wc H.size) a) (va_A wc H.size))
    (kk : ∀ (u : S) (H1 : Heap) (locs1 : List Loc), post u → va_P D vwCl (wr ++ W1 u) H1 → va_D A0 (wr ++ W1 u) → va_S A0 H0 H1 locs1 → (∀ q : Nat, q < H.size → ¬ va_A wc H.size q → H1[q]? = H[q]?) → W p l e R s m args below meth c H1 locs1 (cells + mc) (slots + ms) Q (F0 m (pc + 5) ls rest)) : W p l e R s m args below meth c H locs cells slots Q (F0 m pc ls st0) := by
  have hF := va_free (wc := wc) hD hS hA isC hC
  refine va_callFv hr hS (fun q _ h => hF q h) hF (fun u t H1 locs1 ht hvm hp hB hz hk hS1 => ?_)
  obtain ⟨hP1, hD1⟩ := hB
  rw [ht] at hP1
  obtain ⟨hP2, hD2⟩ := va_join hP hD isC isR hC hR hn hdis hk hF hP1 hD1
  exact kk u H1 locs1 hp hP2 hD2 hS1 hk
end XF
theorem xo_follows : xok xFollows 5 := by unfold xok; decide +kernel
