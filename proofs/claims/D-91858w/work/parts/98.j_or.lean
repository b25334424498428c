set_option maxRecDepth 100000
theorem or8 {x y z : Int32} {n : Nat} (hz : z = nI 8) (hx : x = 0) (hy : y = nI n) (hn : n ≤ 8) : ¬ ((z ||| x) ||| y) < 0 := by
  rw [hz, hx, hy]
  rcases (show n = 0 ∨ n = 1 ∨ n = 2 ∨ n = 3 ∨ n = 4 ∨ n = 5 ∨ n = 6 ∨ n = 7 ∨ n = 8 by omega) with h | h | h | h | h | h | h | h | h <;> rw [h] <;> decide
theorem sub8 {x y z : Int32} {n : Nat} (hz : z = nI 8) (hx : x = 0) (hy : y = nI n) (hn : n ≤ 8) : y ≤ z - x := by
  rw [hz, hx, hy]
  rcases (show n = 0 ∨ n = 1 ∨ n = 2 ∨ n = 3 ∨ n = 4 ∨ n = 5 ∨ n = 6 ∨ n = 7 ∨ n = 8 by omega) with h | h | h | h | h | h | h | h | h <;> rw [h] <;> decide
theorem nI8_ne0 {y : Int32} {n : Nat} (hy : y = nI n) (h1 : 1 ≤ n) (hn : n ≤ 8) : ¬ y = 0 := by
  rw [hy]
  rcases (show n = 1 ∨ n = 2 ∨ n = 3 ∨ n = 4 ∨ n = 5 ∨ n = 6 ∨ n = 7 ∨ n = 8 by omega) with h | h | h | h | h | h | h | h <;> rw [h] <;> decide
theorem cod8 {y : Int32} {n : Nat} (hy : y = nI n) : ((y - nI n).toUInt32 >>> ((31 : Int32).toUInt32 &&& Int32.toUInt32 31)).toInt32.toInt8.toInt32 = 0 := by
  rw [hy, Int32.sub_self]
  decide
section XN3
variable {p : Program} {l : Launch} {e : Env} {R : Room} {s : State} {m : MethodId} {args : Array Value} {below : List Frame} {meth : Method} {c : Code} {H : Heap} {locs : List Loc} {cells slots : Nat}
variable {cc : ByteArray} {pc : Nat} {ls : Array Slot}
theorem xret_qa {Qc : Array Value → State → Outcome → State → Prop} {free : Addr → Prop} {v : Option Nat} {v0 : Value} {mc ms : Nat} {t : FieldType} (hexec : p.tables.exec = Jvm.exec) (hb : c.code = cc) (hr : meth.sig.returnType = some (.array t)) (hlocks : meth.locks = false) (h1 : cells ≤ mc) (h2 : slots ≤ ms) (hf : ∀ q ∈ locs, free q.base) (hdg : decode cc pc = .ok (.areturn, 1)) (hv : v0 = va_rf v)
    (hq : ∀ t : State, t.heap = H → Qc args s (.returned (some (va_rf v))) t) : W p l e R s m args below meth c H locs cells slots (MQ below Qc args s mc ms free) (F0 m pc ls [v0]) := by
  subst hv
  exact W.widen h1 h2 (W.aret hexec hb hr (Or.inr ⟨_, rfl⟩) (va_rf_or v) (fun t ht _ => hq t ht) hf hdg hlocks)
end XN3
