/-! DECODE ROWS BY BYTES: one lemma an opcode; a method's code is cut into short pieces once, and a row reads its own piece alone. -/
set_option maxRecDepth 100000
/-- the code has just these bytes from pc on -/
def DkAt (code : ByteArray) (pc : Nat) (bs : List UInt8) : Prop := ∀ (j : Nat) (b : UInt8), bs[j]? = some b → code.data.toList[pc + j]? = some b
/-- the piece W has the bytes bs from its place j on -/
def dkIn (W : List UInt8) (j : Nat) (bs : List UInt8) : Bool := decide ((W.drop j).take bs.length = bs)
theorem dk_seg {l W T : List UInt8} {o o2 : Nat} (h : l.drop o = W ++ T) (n : Nat) (hn : W.length = n) (ho : o + n = o2) : l.drop o2 = T := by
  subst ho
  rw [← List.drop_drop, h, List.drop_left' hn]
theorem dk_at {code : ByteArray} {W T bs : List UInt8} {o pc : Nat} (h : code.data.toList.drop o = W ++ T) (j : Nat) (hp : o + j = pc) (hw : dkIn W j bs = true) : DkAt code pc bs := by
  subst hp
  intro i b e
  have h1 := of_decide_eq_true hw
  have h2 : i < bs.length := (List.getElem?_eq_some_iff.mp e).1
  have h3 : W[j + i]? = some b := by
    rw [← h1, List.getElem?_take, if_pos h2, List.getElem?_drop] at e
    exact e
  have h4 : j + i < W.length := (List.getElem?_eq_some_iff.mp h3).1
  have h5 : (code.data.toList.drop o)[j + i]? = some b := by
    rw [h, List.getElem?_append_left h4]
    exact h3
  rw [List.getElem?_drop, ← Nat.add_assoc] at h5
  exact h5
theorem dk_u1 {A : ByteArray} {p : Nat} {b : UInt8} (h : A.data.toList[p]? = some b) : (Reader.u1 : Reader DecodeError Nat) A p = .ok (b.toNat, p + 1) := by
  obtain ⟨h1, h2⟩ := List.getElem?_eq_some_iff.mp h
  have h3 : p < A.size := by simpa using h1
  have h4 : A[p]'h3 = b := h2
  have e : (Reader.u1 : Reader DecodeError Nat) A p = (if h : p < A.size then .ok (A[p].toNat, p + 1) else .error (HasTruncated.truncated p)) := by
    show (do if h : p < A.size then do set (p + 1); Pure.pure A[p].toNat else MonadExcept.throw (HasTruncated.truncated p) : Reader DecodeError Nat) A p = _
    by_cases hi : p < A.size
    · rw [dif_pos hi, dif_pos hi]; rfl
    · rw [dif_neg hi, dif_neg hi]; rfl
  rw [e, dif_pos h3, h4]
theorem dk_bind {α β : Type} {r : Reader DecodeError α} {f : α → Reader DecodeError β} {A : ByteArray} {p s : Nat} {a : α} (h : r A p = .ok (a, s)) : (r >>= f) A p = f a A s := by
  show (do let (a, s) ← r A p; f a A s : Except DecodeError (β × Nat)) = _
  rw [h]
  rfl
theorem dk_map {α β : Type} {r : Reader DecodeError α} {g : α → β} {A : ByteArray} {p s : Nat} {a : α} (h : r A p = .ok (a, s)) : (g <$> r) A p = .ok (g a, s) := by
  show (do let (a, s) ← r A p; .ok (g a, s) : Except DecodeError (β × Nat)) = _
  rw [h]
  rfl
theorem dk_u2 {A : ByteArray} {p : Nat} {a b : UInt8} (h : A.data.toList[p]? = some a) (h2 : A.data.toList[p + 1]? = some b) : (Reader.u2 : Reader DecodeError Nat) A p = .ok (a.toNat * 256 + b.toNat, p + 2) := by
  show (Reader.u1 >>= fun hi => Reader.u1 >>= fun lo => Pure.pure (hi * 256 + lo) : Reader DecodeError Nat) A p = _
  rw [dk_bind (dk_u1 h), dk_bind (dk_u1 h2)]
  rfl
theorem dk_of {code : ByteArray} {pc n : Nat} {i : Instr} (h : Decoder.instr pc code pc = .ok (i, pc + n)) : decode code pc = .ok (i, n) := by
  have e : decode code pc = (match Decoder.instr pc code pc with | .error x => .error x | .ok (j, s) => .ok (j, s - pc)) := by
    show (do let (j, s) ← Decoder.instr pc code pc; Pure.pure (j, s - pc) : Except DecodeError (Instr × Nat)) = _
    cases Decoder.instr pc code pc <;> rfl
  rw [e, h]
  show Except.ok (i, pc + n - pc) = _
  rw [Nat.add_sub_cancel_left]
theorem dk_1 {code : ByteArray} {pc : Nat} (h : DkAt code pc [1]) : decode code pc = .ok (.aconst_null, 1) := dk_of ((dk_bind (dk_u1 (h 0 _ rfl))).trans rfl)
theorem dk_2 {code : ByteArray} {pc : Nat} (h : DkAt code pc [2]) : decode code pc = .ok (.iconst (-1), 1) := dk_of ((dk_bind (dk_u1 (h 0 _ rfl))).trans rfl)
theorem dk_3 {code : ByteArray} {pc : Nat} (h : DkAt code pc [3]) : decode code pc = .ok (.iconst 0, 1) := dk_of ((dk_bind (dk_u1 (h 0 _ rfl))).trans rfl)
theorem dk_4 {code : ByteArray} {pc : Nat} (h : DkAt code pc [4]) : decode code pc = .ok (.iconst 1, 1) := dk_of ((dk_bind (dk_u1 (h 0 _ rfl))).trans rfl)
theorem dk_5 {code : ByteArray} {pc : Nat} (h : DkAt code pc [5]) : decode code pc = .ok (.iconst 2, 1) := dk_of ((dk_bind (dk_u1 (h 0 _ rfl))).trans rfl)
theorem dk_6 {code : ByteArray} {pc : Nat} (h : DkAt code pc [6]) : decode code pc = .ok (.iconst 3, 1) := dk_of ((dk_bind (dk_u1 (h 0 _ rfl))).trans rfl)
theorem dk_7 {code : ByteArray} {pc : Nat} (h : DkAt code pc [7]) : decode code pc = .ok (.iconst 4, 1) := dk_of ((dk_bind (dk_u1 (h 0 _ rfl))).trans rfl)
theorem dk_8 {code : ByteArray} {pc : Nat} (h : DkAt code pc [8]) : decode code pc = .ok (.iconst 5, 1) := dk_of ((dk_bind (dk_u1 (h 0 _ rfl))).trans rfl)
theorem dk_9 {code : ByteArray} {pc : Nat} (h : DkAt code pc [9]) : decode code pc = .ok (.lconst 0, 1) := dk_of ((dk_bind (dk_u1 (h 0 _ rfl))).trans rfl)
theorem dk_16 {code : ByteArray} {pc : Nat} (a : UInt8) (h : DkAt code pc [16, a]) : decode code pc = .ok (.bipush (Reader.signed 8 a.toNat), 2) := dk_of ((dk_bind (dk_u1 (h 0 _ rfl))).trans ((dk_bind (dk_map (dk_u1 (h 1 _ rfl)))).trans rfl))
theorem dk_17 {code : ByteArray} {pc : Nat} (a b : UInt8) (h : DkAt code pc [17, a, b]) : decode code pc = .ok (.sipush (Reader.signed 16 (a.toNat * 256 + b.toNat)), 3) := dk_of ((dk_bind (dk_u1 (h 0 _ rfl))).trans ((dk_bind (dk_map (dk_u2 (h 1 _ rfl) (h 2 _ rfl)))).trans rfl))
theorem dk_18 {code : ByteArray} {pc : Nat} (a : UInt8) (h : DkAt code pc [18, a]) : decode code pc = .ok (.ldc a.toNat, 2) := dk_of ((dk_bind (dk_u1 (h 0 _ rfl))).trans ((dk_bind (dk_u1 (h 1 _ rfl))).trans rfl))
theorem dk_19 {code : ByteArray} {pc : Nat} (a b : UInt8) (h : DkAt code pc [19, a, b]) : decode code pc = .ok (.ldc_w (a.toNat * 256 + b.toNat), 3) := dk_of ((dk_bind (dk_u1 (h 0 _ rfl))).trans ((dk_bind (dk_u2 (h 1 _ rfl) (h 2 _ rfl))).trans rfl))
theorem dk_20 {code : ByteArray} {pc : Nat} (a b : UInt8) (h : DkAt code pc [20, a, b]) : decode code pc = .ok (.ldc2_w (a.toNat * 256 + b.toNat), 3) := dk_of ((dk_bind (dk_u1 (h 0 _ rfl))).trans ((dk_bind (dk_u2 (h 1 _ rfl) (h 2 _ rfl))).trans rfl))
theorem dk_21 {code : ByteArray} {pc : Nat} (a : UInt8) (h : DkAt code pc [21, a]) : decode code pc = .ok (.iload a.toNat, 2) := dk_of ((dk_bind (dk_u1 (h 0 _ rfl))).trans ((dk_bind (dk_u1 (h 1 _ rfl))).trans rfl))
theorem dk_22 {code : ByteArray} {pc : Nat} (a : UInt8) (h : DkAt code pc [22, a]) : decode code pc = .ok (.lload a.toNat, 2) := dk_of ((dk_bind (dk_u1 (h 0 _ rfl))).trans ((dk_bind (dk_u1 (h 1 _ rfl))).trans rfl))
theorem dk_25 {code : ByteArray} {pc : Nat} (a : UInt8) (h : DkAt code pc [25, a]) : decode code pc = .ok (.aload a.toNat, 2) := dk_of ((dk_bind (dk_u1 (h 0 _ rfl))).trans ((dk_bind (dk_u1 (h 1 _ rfl))).trans rfl))
theorem dk_26 {code : ByteArray} {pc : Nat} (h : DkAt code pc [26]) : decode code pc = .ok (.iload_n 0, 1) := dk_of ((dk_bind (dk_u1 (h 0 _ rfl))).trans rfl)
theorem dk_27 {code : ByteArray} {pc : Nat} (h : DkAt code pc [27]) : decode code pc = .ok (.iload_n 1, 1) := dk_of ((dk_bind (dk_u1 (h 0 _ rfl))).trans rfl)
theorem dk_28 {code : ByteArray} {pc : Nat} (h : DkAt code pc [28]) : decode code pc = .ok (.iload_n 2, 1) := dk_of ((dk_bind (dk_u1 (h 0 _ rfl))).trans rfl)
theorem dk_29 {code : ByteArray} {pc : Nat} (h : DkAt code pc [29]) : decode code pc = .ok (.iload_n 3, 1) := dk_of ((dk_bind (dk_u1 (h 0 _ rfl))).trans rfl)
theorem dk_31 {code : ByteArray} {pc : Nat} (h : DkAt code pc [31]) : decode code pc = .ok (.lload_n 1, 1) := dk_of ((dk_bind (dk_u1 (h 0 _ rfl))).trans rfl)
theorem dk_32 {code : ByteArray} {pc : Nat} (h : DkAt code pc [32]) : decode code pc = .ok (.lload_n 2, 1) := dk_of ((dk_bind (dk_u1 (h 0 _ rfl))).trans rfl)
theorem dk_42 {code : ByteArray} {pc : Nat} (h : DkAt code pc [42]) : decode code pc = .ok (.aload_n 0, 1) := dk_of ((dk_bind (dk_u1 (h 0 _ rfl))).trans rfl)
theorem dk_43 {code : ByteArray} {pc : Nat} (h : DkAt code pc [43]) : decode code pc = .ok (.aload_n 1, 1) := dk_of ((dk_bind (dk_u1 (h 0 _ rfl))).trans rfl)
theorem dk_44 {code : ByteArray} {pc : Nat} (h : DkAt code pc [44]) : decode code pc = .ok (.aload_n 2, 1) := dk_of ((dk_bind (dk_u1 (h 0 _ rfl))).trans rfl)
theorem dk_45 {code : ByteArray} {pc : Nat} (h : DkAt code pc [45]) : decode code pc = .ok (.aload_n 3, 1) := dk_of ((dk_bind (dk_u1 (h 0 _ rfl))).trans rfl)
theorem dk_46 {code : ByteArray} {pc : Nat} (h : DkAt code pc [46]) : decode code pc = .ok (.iaload, 1) := dk_of ((dk_bind (dk_u1 (h 0 _ rfl))).trans rfl)
theorem dk_47 {code : ByteArray} {pc : Nat} (h : DkAt code pc [47]) : decode code pc = .ok (.laload, 1) := dk_of ((dk_bind (dk_u1 (h 0 _ rfl))).trans rfl)
theorem dk_50 {code : ByteArray} {pc : Nat} (h : DkAt code pc [50]) : decode code pc = .ok (.aaload, 1) := dk_of ((dk_bind (dk_u1 (h 0 _ rfl))).trans rfl)
theorem dk_51 {code : ByteArray} {pc : Nat} (h : DkAt code pc [51]) : decode code pc = .ok (.baload, 1) := dk_of ((dk_bind (dk_u1 (h 0 _ rfl))).trans rfl)
theorem dk_52 {code : ByteArray} {pc : Nat} (h : DkAt code pc [52]) : decode code pc = .ok (.caload, 1) := dk_of ((dk_bind (dk_u1 (h 0 _ rfl))).trans rfl)
theorem dk_53 {code : ByteArray} {pc : Nat} (h : DkAt code pc [53]) : decode code pc = .ok (.saload, 1) := dk_of ((dk_bind (dk_u1 (h 0 _ rfl))).trans rfl)
theorem dk_54 {code : ByteArray} {pc : Nat} (a : UInt8) (h : DkAt code pc [54, a]) : decode code pc = .ok (.istore a.toNat, 2) := dk_of ((dk_bind (dk_u1 (h 0 _ rfl))).trans ((dk_bind (dk_u1 (h 1 _ rfl))).trans rfl))
theorem dk_55 {code : ByteArray} {pc : Nat} (a : UInt8) (h : DkAt code pc [55, a]) : decode code pc = .ok (.lstore a.toNat, 2) := dk_of ((dk_bind (dk_u1 (h 0 _ rfl))).trans ((dk_bind (dk_u1 (h 1 _ rfl))).trans rfl))
theorem dk_58 {code : ByteArray} {pc : Nat} (a : UInt8) (h : DkAt code pc [58, a]) : decode code pc = .ok (.astore a.toNat, 2) := dk_of ((dk_bind (dk_u1 (h 0 _ rfl))).trans ((dk_bind (dk_u1 (h 1 _ rfl))).trans rfl))
theorem dk_59 {code : ByteArray} {pc : Nat} (h : DkAt code pc [59]) : decode code pc = .ok (.istore_n 0, 1) := dk_of ((dk_bind (dk_u1 (h 0 _ rfl))).trans rfl)
theorem dk_60 {code : ByteArray} {pc : Nat} (h : DkAt code pc [60]) : decode code pc = .ok (.istore_n 1, 1) := dk_of ((dk_bind (dk_u1 (h 0 _ rfl))).trans rfl)
theorem dk_61 {code : ByteArray} {pc : Nat} (h : DkAt code pc [61]) : decode code pc = .ok (.istore_n 2, 1) := dk_of ((dk_bind (dk_u1 (h 0 _ rfl))).trans rfl)
theorem dk_62 {code : ByteArray} {pc : Nat} (h : DkAt code pc [62]) : decode code pc = .ok (.istore_n 3, 1) := dk_of ((dk_bind (dk_u1 (h 0 _ rfl))).trans rfl)
theorem dk_64 {code : ByteArray} {pc : Nat} (h : DkAt code pc [64]) : decode code pc = .ok (.lstore_n 1, 1) := dk_of ((dk_bind (dk_u1 (h 0 _ rfl))).trans rfl)
theorem dk_65 {code : ByteArray} {pc : Nat} (h : DkAt code pc [65]) : decode code pc = .ok (.lstore_n 2, 1) := dk_of ((dk_bind (dk_u1 (h 0 _ rfl))).trans rfl)
theorem dk_76 {code : ByteArray} {pc : Nat} (h : DkAt code pc [76]) : decode code pc = .ok (.astore_n 1, 1) := dk_of ((dk_bind (dk_u1 (h 0 _ rfl))).trans rfl)
theorem dk_77 {code : ByteArray} {pc : Nat} (h : DkAt code pc [77]) : decode code pc = .ok (.astore_n 2, 1) := dk_of ((dk_bind (dk_u1 (h 0 _ rfl))).trans rfl)
theorem dk_78 {code : ByteArray} {pc : Nat} (h : DkAt code pc [78]) : decode code pc = .ok (.astore_n 3, 1) := dk_of ((dk_bind (dk_u1 (h 0 _ rfl))).trans rfl)
theorem dk_79 {code : ByteArray} {pc : Nat} (h : DkAt code pc [79]) : decode code pc = .ok (.iastore, 1) := dk_of ((dk_bind (dk_u1 (h 0 _ rfl))).trans rfl)
theorem dk_80 {code : ByteArray} {pc : Nat} (h : DkAt code pc [80]) : decode code pc = .ok (.lastore, 1) := dk_of ((dk_bind (dk_u1 (h 0 _ rfl))).trans rfl)
theorem dk_83 {code : ByteArray} {pc : Nat} (h : DkAt code pc [83]) : decode code pc = .ok (.aastore, 1) := dk_of ((dk_bind (dk_u1 (h 0 _ rfl))).trans rfl)
theorem dk_84 {code : ByteArray} {pc : Nat} (h : DkAt code pc [84]) : decode code pc = .ok (.bastore, 1) := dk_of ((dk_bind (dk_u1 (h 0 _ rfl))).trans rfl)
theorem dk_85 {code : ByteArray} {pc : Nat} (h : DkAt code pc [85]) : decode code pc = .ok (.castore, 1) := dk_of ((dk_bind (dk_u1 (h 0 _ rfl))).trans rfl)
theorem dk_87 {code : ByteArray} {pc : Nat} (h : DkAt code pc [87]) : decode code pc = .ok (.pop, 1) := dk_of ((dk_bind (dk_u1 (h 0 _ rfl))).trans rfl)
theorem dk_89 {code : ByteArray} {pc : Nat} (h : DkAt code pc [89]) : decode code pc = .ok (.dup, 1) := dk_of ((dk_bind (dk_u1 (h 0 _ rfl))).trans rfl)
theorem dk_92 {code : ByteArray} {pc : Nat} (h : DkAt code pc [92]) : decode code pc = .ok (.dup2, 1) := dk_of ((dk_bind (dk_u1 (h 0 _ rfl))).trans rfl)
theorem dk_96 {code : ByteArray} {pc : Nat} (h : DkAt code pc [96]) : decode code pc = .ok (.iadd, 1) := dk_of ((dk_bind (dk_u1 (h 0 _ rfl))).trans rfl)
theorem dk_97 {code : ByteArray} {pc : Nat} (h : DkAt code pc [97]) : decode code pc = .ok (.ladd, 1) := dk_of ((dk_bind (dk_u1 (h 0 _ rfl))).trans rfl)
theorem dk_100 {code : ByteArray} {pc : Nat} (h : DkAt code pc [100]) : decode code pc = .ok (.isub, 1) := dk_of ((dk_bind (dk_u1 (h 0 _ rfl))).trans rfl)
theorem dk_101 {code : ByteArray} {pc : Nat} (h : DkAt code pc [101]) : decode code pc = .ok (.lsub, 1) := dk_of ((dk_bind (dk_u1 (h 0 _ rfl))).trans rfl)
theorem dk_104 {code : ByteArray} {pc : Nat} (h : DkAt code pc [104]) : decode code pc = .ok (.imul, 1) := dk_of ((dk_bind (dk_u1 (h 0 _ rfl))).trans rfl)
theorem dk_105 {code : ByteArray} {pc : Nat} (h : DkAt code pc [105]) : decode code pc = .ok (.lmul, 1) := dk_of ((dk_bind (dk_u1 (h 0 _ rfl))).trans rfl)
theorem dk_108 {code : ByteArray} {pc : Nat} (h : DkAt code pc [108]) : decode code pc = .ok (.idiv, 1) := dk_of ((dk_bind (dk_u1 (h 0 _ rfl))).trans rfl)
theorem dk_109 {code : ByteArray} {pc : Nat} (h : DkAt code pc [109]) : decode code pc = .ok (.ldiv, 1) := dk_of ((dk_bind (dk_u1 (h 0 _ rfl))).trans rfl)
theorem dk_112 {code : ByteArray} {pc : Nat} (h : DkAt code pc [112]) : decode code pc = .ok (.irem, 1) := dk_of ((dk_bind (dk_u1 (h 0 _ rfl))).trans rfl)
theorem dk_116 {code : ByteArray} {pc : Nat} (h : DkAt code pc [116]) : decode code pc = .ok (.ineg, 1) := dk_of ((dk_bind (dk_u1 (h 0 _ rfl))).trans rfl)
theorem dk_120 {code : ByteArray} {pc : Nat} (h : DkAt code pc [120]) : decode code pc = .ok (.ishl, 1) := dk_of ((dk_bind (dk_u1 (h 0 _ rfl))).trans rfl)
theorem dk_122 {code : ByteArray} {pc : Nat} (h : DkAt code pc [122]) : decode code pc = .ok (.ishr, 1) := dk_of ((dk_bind (dk_u1 (h 0 _ rfl))).trans rfl)
theorem dk_124 {code : ByteArray} {pc : Nat} (h : DkAt code pc [124]) : decode code pc = .ok (.iushr, 1) := dk_of ((dk_bind (dk_u1 (h 0 _ rfl))).trans rfl)
theorem dk_126 {code : ByteArray} {pc : Nat} (h : DkAt code pc [126]) : decode code pc = .ok (.iand, 1) := dk_of ((dk_bind (dk_u1 (h 0 _ rfl))).trans rfl)
theorem dk_128 {code : ByteArray} {pc : Nat} (h : DkAt code pc [128]) : decode code pc = .ok (.ior, 1) := dk_of ((dk_bind (dk_u1 (h 0 _ rfl))).trans rfl)
theorem dk_132 {code : ByteArray} {pc : Nat} (a b : UInt8) (h : DkAt code pc [132, a, b]) : decode code pc = .ok (.iinc a.toNat (Reader.signed 8 b.toNat), 3) := dk_of ((dk_bind (dk_u1 (h 0 _ rfl))).trans ((dk_bind (dk_u1 (h 1 _ rfl))).trans ((dk_bind (dk_map (dk_u1 (h 2 _ rfl)))).trans rfl)))
theorem dk_133 {code : ByteArray} {pc : Nat} (h : DkAt code pc [133]) : decode code pc = .ok (.i2l, 1) := dk_of ((dk_bind (dk_u1 (h 0 _ rfl))).trans rfl)
theorem dk_136 {code : ByteArray} {pc : Nat} (h : DkAt code pc [136]) : decode code pc = .ok (.l2i, 1) := dk_of ((dk_bind (dk_u1 (h 0 _ rfl))).trans rfl)
theorem dk_145 {code : ByteArray} {pc : Nat} (h : DkAt code pc [145]) : decode code pc = .ok (.i2b, 1) := dk_of ((dk_bind (dk_u1 (h 0 _ rfl))).trans rfl)
theorem dk_146 {code : ByteArray} {pc : Nat} (h : DkAt code pc [146]) : decode code pc = .ok (.i2c, 1) := dk_of ((dk_bind (dk_u1 (h 0 _ rfl))).trans rfl)
theorem dk_148 {code : ByteArray} {pc : Nat} (h : DkAt code pc [148]) : decode code pc = .ok (.lcmp, 1) := dk_of ((dk_bind (dk_u1 (h 0 _ rfl))).trans rfl)
theorem dk_153 {code : ByteArray} {pc : Nat} (a b : UInt8) (h : DkAt code pc [153, a, b]) : decode code pc = .ok (.ifCond .eq (Reader.signed 16 (a.toNat * 256 + b.toNat)), 3) := dk_of ((dk_bind (dk_u1 (h 0 _ rfl))).trans ((dk_bind (dk_map (dk_u2 (h 1 _ rfl) (h 2 _ rfl)))).trans rfl))
theorem dk_154 {code : ByteArray} {pc : Nat} (a b : UInt8) (h : DkAt code pc [154, a, b]) : decode code pc = .ok (.ifCond .ne (Reader.signed 16 (a.toNat * 256 + b.toNat)), 3) := dk_of ((dk_bind (dk_u1 (h 0 _ rfl))).trans ((dk_bind (dk_map (dk_u2 (h 1 _ rfl) (h 2 _ rfl)))).trans rfl))
theorem dk_155 {code : ByteArray} {pc : Nat} (a b : UInt8) (h : DkAt code pc [155, a, b]) : decode code pc = .ok (.ifCond .lt (Reader.signed 16 (a.toNat * 256 + b.toNat)), 3) := dk_of ((dk_bind (dk_u1 (h 0 _ rfl))).trans ((dk_bind (dk_map (dk_u2 (h 1 _ rfl) (h 2 _ rfl)))).trans rfl))
theorem dk_156 {code : ByteArray} {pc : Nat} (a b : UInt8) (h : DkAt code pc [156, a, b]) : decode code pc = .ok (.ifCond .ge (Reader.signed 16 (a.toNat * 256 + b.toNat)), 3) := dk_of ((dk_bind (dk_u1 (h 0 _ rfl))).trans ((dk_bind (dk_map (dk_u2 (h 1 _ rfl) (h 2 _ rfl)))).trans rfl))
theorem dk_157 {code : ByteArray} {pc : Nat} (a b : UInt8) (h : DkAt code pc [157, a, b]) : decode code pc = .ok (.ifCond .gt (Reader.signed 16 (a.toNat * 256 + b.toNat)), 3) := dk_of ((dk_bind (dk_u1 (h 0 _ rfl))).trans ((dk_bind (dk_map (dk_u2 (h 1 _ rfl) (h 2 _ rfl)))).trans rfl))
theorem dk_158 {code : ByteArray} {pc : Nat} (a b : UInt8) (h : DkAt code pc [158, a, b]) : decode code pc = .ok (.ifCond .le (Reader.signed 16 (a.toNat * 256 + b.toNat)), 3) := dk_of ((dk_bind (dk_u1 (h 0 _ rfl))).trans ((dk_bind (dk_map (dk_u2 (h 1 _ rfl) (h 2 _ rfl)))).trans rfl))
theorem dk_159 {code : ByteArray} {pc : Nat} (a b : UInt8) (h : DkAt code pc [159, a, b]) : decode code pc = .ok (.if_icmp .eq (Reader.signed 16 (a.toNat * 256 + b.toNat)), 3) := dk_of ((dk_bind (dk_u1 (h 0 _ rfl))).trans ((dk_bind (dk_map (dk_u2 (h 1 _ rfl) (h 2 _ rfl)))).trans rfl))
theorem dk_160 {code : ByteArray} {pc : Nat} (a b : UInt8) (h : DkAt code pc [160, a, b]) : decode code pc = .ok (.if_icmp .ne (Reader.signed 16 (a.toNat * 256 + b.toNat)), 3) := dk_of ((dk_bind (dk_u1 (h 0 _ rfl))).trans ((dk_bind (dk_map (dk_u2 (h 1 _ rfl) (h 2 _ rfl)))).trans rfl))
theorem dk_161 {code : ByteArray} {pc : Nat} (a b : UInt8) (h : DkAt code pc [161, a, b]) : decode code pc = .ok (.if_icmp .lt (Reader.signed 16 (a.toNat * 256 + b.toNat)), 3) := dk_of ((dk_bind (dk_u1 (h 0 _ rfl))).trans ((dk_bind (dk_map (dk_u2 (h 1 _ rfl) (h 2 _ rfl)))).trans rfl))
theorem dk_162 {code : ByteArray} {pc : Nat} (a b : UInt8) (h : DkAt code pc [162, a, b]) : decode code pc = .ok (.if_icmp .ge (Reader.signed 16 (a.toNat * 256 + b.toNat)), 3) := dk_of ((dk_bind (dk_u1 (h 0 _ rfl))).trans ((dk_bind (dk_map (dk_u2 (h 1 _ rfl) (h 2 _ rfl)))).trans rfl))
theorem dk_163 {code : ByteArray} {pc : Nat} (a b : UInt8) (h : DkAt code pc [163, a, b]) : decode code pc = .ok (.if_icmp .gt (Reader.signed 16 (a.toNat * 256 + b.toNat)), 3) := dk_of ((dk_bind (dk_u1 (h 0 _ rfl))).trans ((dk_bind (dk_map (dk_u2 (h 1 _ rfl) (h 2 _ rfl)))).trans rfl))
theorem dk_164 {code : ByteArray} {pc : Nat} (a b : UInt8) (h : DkAt code pc [164, a, b]) : decode code pc = .ok (.if_icmp .le (Reader.signed 16 (a.toNat * 256 + b.toNat)), 3) := dk_of ((dk_bind (dk_u1 (h 0 _ rfl))).trans ((dk_bind (dk_map (dk_u2 (h 1 _ rfl) (h 2 _ rfl)))).trans rfl))
theorem dk_166 {code : ByteArray} {pc : Nat} (a b : UInt8) (h : DkAt code pc [166, a, b]) : decode code pc = .ok (.if_acmp .ne (Reader.signed 16 (a.toNat * 256 + b.toNat)), 3) := dk_of ((dk_bind (dk_u1 (h 0 _ rfl))).trans ((dk_bind (dk_map (dk_u2 (h 1 _ rfl) (h 2 _ rfl)))).trans rfl))
theorem dk_167 {code : ByteArray} {pc : Nat} (a b : UInt8) (h : DkAt code pc [167, a, b]) : decode code pc = .ok (.goto (Reader.signed 16 (a.toNat * 256 + b.toNat)), 3) := dk_of ((dk_bind (dk_u1 (h 0 _ rfl))).trans ((dk_bind (dk_map (dk_u2 (h 1 _ rfl) (h 2 _ rfl)))).trans rfl))
theorem dk_172 {code : ByteArray} {pc : Nat} (h : DkAt code pc [172]) : decode code pc = .ok (.ireturn, 1) := dk_of ((dk_bind (dk_u1 (h 0 _ rfl))).trans rfl)
theorem dk_173 {code : ByteArray} {pc : Nat} (h : DkAt code pc [173]) : decode code pc = .ok (.lreturn, 1) := dk_of ((dk_bind (dk_u1 (h 0 _ rfl))).trans rfl)
theorem dk_176 {code : ByteArray} {pc : Nat} (h : DkAt code pc [176]) : decode code pc = .ok (.areturn, 1) := dk_of ((dk_bind (dk_u1 (h 0 _ rfl))).trans rfl)
theorem dk_177 {code : ByteArray} {pc : Nat} (h : DkAt code pc [177]) : decode code pc = .ok (.return_, 1) := dk_of ((dk_bind (dk_u1 (h 0 _ rfl))).trans rfl)
theorem dk_178 {code : ByteArray} {pc : Nat} (a b : UInt8) (h : DkAt code pc [178, a, b]) : decode code pc = .ok (.getstatic (a.toNat * 256 + b.toNat), 3) := dk_of ((dk_bind (dk_u1 (h 0 _ rfl))).trans ((dk_bind (dk_u2 (h 1 _ rfl) (h 2 _ rfl))).trans rfl))
theorem dk_180 {code : ByteArray} {pc : Nat} (a b : UInt8) (h : DkAt code pc [180, a, b]) : decode code pc = .ok (.getfield (a.toNat * 256 + b.toNat), 3) := dk_of ((dk_bind (dk_u1 (h 0 _ rfl))).trans ((dk_bind (dk_u2 (h 1 _ rfl) (h 2 _ rfl))).trans rfl))
theorem dk_181 {code : ByteArray} {pc : Nat} (a b : UInt8) (h : DkAt code pc [181, a, b]) : decode code pc = .ok (.putfield (a.toNat * 256 + b.toNat), 3) := dk_of ((dk_bind (dk_u1 (h 0 _ rfl))).trans ((dk_bind (dk_u2 (h 1 _ rfl) (h 2 _ rfl))).trans rfl))
theorem dk_182 {code : ByteArray} {pc : Nat} (a b : UInt8) (h : DkAt code pc [182, a, b]) : decode code pc = .ok (.invokevirtual (a.toNat * 256 + b.toNat), 3) := dk_of ((dk_bind (dk_u1 (h 0 _ rfl))).trans ((dk_bind (dk_u2 (h 1 _ rfl) (h 2 _ rfl))).trans rfl))
theorem dk_183 {code : ByteArray} {pc : Nat} (a b : UInt8) (h : DkAt code pc [183, a, b]) : decode code pc = .ok (.invokespecial (a.toNat * 256 + b.toNat), 3) := dk_of ((dk_bind (dk_u1 (h 0 _ rfl))).trans ((dk_bind (dk_u2 (h 1 _ rfl) (h 2 _ rfl))).trans rfl))
theorem dk_184 {code : ByteArray} {pc : Nat} (a b : UInt8) (h : DkAt code pc [184, a, b]) : decode code pc = .ok (.invokestatic (a.toNat * 256 + b.toNat), 3) := dk_of ((dk_bind (dk_u1 (h 0 _ rfl))).trans ((dk_bind (dk_u2 (h 1 _ rfl) (h 2 _ rfl))).trans rfl))
theorem dk_187 {code : ByteArray} {pc : Nat} (a b : UInt8) (h : DkAt code pc [187, a, b]) : decode code pc = .ok (.new (a.toNat * 256 + b.toNat), 3) := dk_of ((dk_bind (dk_u1 (h 0 _ rfl))).trans ((dk_bind (dk_u2 (h 1 _ rfl) (h 2 _ rfl))).trans rfl))
theorem dk_188_5 {code : ByteArray} {pc : Nat} (h : DkAt code pc [188, 5]) : decode code pc = .ok (.newarray .char, 2) := dk_of ((dk_bind (dk_u1 (h 0 _ rfl))).trans ((dk_bind (dk_u1 (h 1 _ rfl))).trans rfl))
theorem dk_188_8 {code : ByteArray} {pc : Nat} (h : DkAt code pc [188, 8]) : decode code pc = .ok (.newarray .byte, 2) := dk_of ((dk_bind (dk_u1 (h 0 _ rfl))).trans ((dk_bind (dk_u1 (h 1 _ rfl))).trans rfl))
theorem dk_188_10 {code : ByteArray} {pc : Nat} (h : DkAt code pc [188, 10]) : decode code pc = .ok (.newarray .int, 2) := dk_of ((dk_bind (dk_u1 (h 0 _ rfl))).trans ((dk_bind (dk_u1 (h 1 _ rfl))).trans rfl))
theorem dk_188_11 {code : ByteArray} {pc : Nat} (h : DkAt code pc [188, 11]) : decode code pc = .ok (.newarray .long, 2) := dk_of ((dk_bind (dk_u1 (h 0 _ rfl))).trans ((dk_bind (dk_u1 (h 1 _ rfl))).trans rfl))
theorem dk_189 {code : ByteArray} {pc : Nat} (a b : UInt8) (h : DkAt code pc [189, a, b]) : decode code pc = .ok (.anewarray (a.toNat * 256 + b.toNat), 3) := dk_of ((dk_bind (dk_u1 (h 0 _ rfl))).trans ((dk_bind (dk_u2 (h 1 _ rfl) (h 2 _ rfl))).trans rfl))
theorem dk_190 {code : ByteArray} {pc : Nat} (h : DkAt code pc [190]) : decode code pc = .ok (.arraylength, 1) := dk_of ((dk_bind (dk_u1 (h 0 _ rfl))).trans rfl)
theorem dk_191 {code : ByteArray} {pc : Nat} (h : DkAt code pc [191]) : decode code pc = .ok (.athrow, 1) := dk_of ((dk_bind (dk_u1 (h 0 _ rfl))).trans rfl)
theorem dk_192 {code : ByteArray} {pc : Nat} (a b : UInt8) (h : DkAt code pc [192, a, b]) : decode code pc = .ok (.checkcast (a.toNat * 256 + b.toNat), 3) := dk_of ((dk_bind (dk_u1 (h 0 _ rfl))).trans ((dk_bind (dk_u2 (h 1 _ rfl) (h 2 _ rfl))).trans rfl))
theorem dk_193 {code : ByteArray} {pc : Nat} (a b : UInt8) (h : DkAt code pc [193, a, b]) : decode code pc = .ok (.instanceof (a.toNat * 256 + b.toNat), 3) := dk_of ((dk_bind (dk_u1 (h 0 _ rfl))).trans ((dk_bind (dk_u2 (h 1 _ rfl) (h 2 _ rfl))).trans rfl))
theorem dk_198 {code : ByteArray} {pc : Nat} (a b : UInt8) (h : DkAt code pc [198, a, b]) : decode code pc = .ok (.ifnull (Reader.signed 16 (a.toNat * 256 + b.toNat)), 3) := dk_of ((dk_bind (dk_u1 (h 0 _ rfl))).trans ((dk_bind (dk_map (dk_u2 (h 1 _ rfl) (h 2 _ rfl)))).trans rfl))
theorem dk_199 {code : ByteArray} {pc : Nat} (a b : UInt8) (h : DkAt code pc [199, a, b]) : decode code pc = .ok (.ifnonnull (Reader.signed 16 (a.toNat * 256 + b.toNat)), 3) := dk_of ((dk_bind (dk_u1 (h 0 _ rfl))).trans ((dk_bind (dk_map (dk_u2 (h 1 _ rfl) (h 2 _ rfl)))).trans rfl))

theorem q910 : (Jvm.Cond.interfaceMethod "RoarMill$Follows" "RoarMill$Follows" "goes" "(LRoarMill$Works;ZIII)V") ∈ lw_tbl := lw_at lw_m4 108 rfl
set_option maxRecDepth 100000
theorem q911 : (Jvm.Cond.declares ({ cls := "RoarMill$Follows", name := "goes", desc := "(LRoarMill$Works;ZIII)V" } : Jvm.MethodName)) ∈ lw_tbl := lw_at lw_m4 109 rfl

theorem q105 : (Jvm.Cond.initialized "java/lang/System") ∈ lw_all := lw_g (lw_at lw_m1 23 rfl) rfl
set_option maxRecDepth 100000
theorem q1018 : (Jvm.Cond.static ({ cls := "java/lang/System", name := "arraycopy", desc := "(Ljava/lang/Object;ILjava/lang/Object;II)V" } : Jvm.MethodName)) ∈ lw_all := lw_g (lw_at lw_m4 216 rfl) rfl
theorem q1019 : (Jvm.Cond.native ({ cls := "java/lang/System", name := "arraycopy", desc := "(Ljava/lang/Object;ILjava/lang/Object;II)V" } : Jvm.MethodName)) ∈ lw_all := lw_g (lw_at lw_m4 217 rfl) rfl

theorem q698 : (Jvm.Cond.interfaceMethod "jdk/internal/access/JavaLangAccess" "jdk/internal/access/JavaLangAccess" "getUTF16Char" "([BI)C") ∈ lw_tbl := lw_at lw_m3 136 rfl
set_option maxRecDepth 100000
theorem q699 : (Jvm.Cond.declares ({ cls := "jdk/internal/access/JavaLangAccess", name := "getUTF16Char", desc := "([BI)C" } : Jvm.MethodName)) ∈ lw_tbl := lw_at lw_m3 137 rfl

theorem q194 : (Jvm.Cond.arrayClass Jvm.ClassFile.FieldType.byte) ∈ lw_all := lw_g (lw_at lw_m1 112 rfl) rfl
set_option maxRecDepth 100000
theorem q226 : (Jvm.Cond.arrayClass Jvm.ClassFile.FieldType.char) ∈ lw_all := lw_g (lw_at lw_m1 144 rfl) rfl
theorem q306 : (Jvm.Cond.arrayClass Jvm.ClassFile.FieldType.int) ∈ lw_all := lw_g (lw_at lw_m1 224 rfl) rfl
theorem q329 : (Jvm.Cond.arrayOver (Jvm.ClassFile.FieldType.object "RoarMill$Settings")) ∈ lw_tbl := lw_at lw_m2 7 rfl
theorem q330 : (Jvm.Cond.arrayOver (Jvm.ClassFile.FieldType.object "RoarMill$State")) ∈ lw_tbl := lw_at lw_m2 8 rfl
theorem q363 : (Jvm.Cond.arrayClass Jvm.ClassFile.FieldType.long) ∈ lw_all := lw_g (lw_at lw_m2 41 rfl) rfl
theorem q487 : (Jvm.Cond.arrayOver (Jvm.ClassFile.FieldType.object "RoarMill$Size")) ∈ lw_tbl := lw_at lw_m2 165 rfl
theorem q489 : (Jvm.Cond.arrayOver (Jvm.ClassFile.FieldType.object "RoarMill$Ore")) ∈ lw_tbl := lw_at lw_m2 167 rfl
theorem q1711 : (Jvm.Cond.arrayClass Jvm.ClassFile.FieldType.short) ∈ lw_all := lw_g (lw_at lw_m7 189 rfl) rfl

/-! java/lang/Throwable -/
set_option maxRecDepth 100000
def RJ0 : String := "java/lang/Throwable"
def TJ0 : u_T := fun k => match k with
  | 0 => ("java/lang/Throwable", "cause", "Ljava/lang/Throwable;", false)
  | 1 => ("java/lang/Throwable", "stackTrace", "[Ljava/lang/StackTraceElement;", false)
  | 2 => ("java/lang/Throwable", "suppressedExceptions", "Ljava/util/List;", false)
  | 3 => ("java/lang/Throwable", "detailMessage", "Ljava/lang/String;", false)
  | _ => ("java/lang/Throwable", "backtrace", "Ljava/lang/Object;", false)
def tyJ0 : Nat → FieldType := fun k => match k with
  | 0 => .object "java/lang/Throwable"
  | 1 => .array (.object "java/lang/StackTraceElement")
  | 2 => .object "java/util/List"
  | 3 => .object "java/lang/String"
  | _ => .object "java/lang/Object"
abbrev wsJ00 : List Cond := u_ws RJ0 TJ0 5
theorem nmJ0 : ∀ a, a < 5 → ∀ b, b < 5 → a ≠ b → (TJ0 a).2.1 ≠ (TJ0 b).2.1 := by decide +kernel
theorem tyJ0_ok : ∀ k, k < 5 → parseFieldDescriptor (TJ0 k).2.2.1 = some (tyJ0 k) := by decide +kernel
abbrev cJ0_init : ByteArray := prog_27_method_1_code
def yJ0_init : MethodName := ⟨RJ0, "<init>", "()V"⟩
def dkwJ0_init_1 : List UInt8 := [182, 0, 27, 87, 177]
abbrev dktJ0_init_1 : List UInt8 := dkwJ0_init_1 ++ []
def dkwJ0_init_0 : List UInt8 := [42, 183, 0, 1, 42, 42, 181, 0, 7, 42, 178, 0, 13, 181, 0, 17, 42, 178, 0, 20, 181, 0, 24, 42]
abbrev dktJ0_init_0 : List UInt8 := dkwJ0_init_0 ++ dktJ0_init_1
theorem dksJ0_init_0 : cJ0_init.data.toList.drop 0 = dktJ0_init_0 := by decide +kernel
theorem dksJ0_init_1 : cJ0_init.data.toList.drop 24 = dktJ0_init_1 := dk_seg dksJ0_init_0 24 rfl rfl
theorem dJ0_init_0 : decode cJ0_init 0 = .ok (.aload_n 0, 1) := dk_42 (dk_at dksJ0_init_0 0 rfl rfl)
theorem dJ0_init_1 : decode cJ0_init 1 = .ok (.invokespecial 1, 3) := dk_183 0 1 (dk_at dksJ0_init_0 1 rfl rfl)
theorem dJ0_init_4 : decode cJ0_init 4 = .ok (.aload_n 0, 1) := dk_42 (dk_at dksJ0_init_0 4 rfl rfl)
theorem dJ0_init_5 : decode cJ0_init 5 = .ok (.aload_n 0, 1) := dk_42 (dk_at dksJ0_init_0 5 rfl rfl)
theorem dJ0_init_6 : decode cJ0_init 6 = .ok (.putfield 7, 3) := dk_181 0 7 (dk_at dksJ0_init_0 6 rfl rfl)
theorem dJ0_init_9 : decode cJ0_init 9 = .ok (.aload_n 0, 1) := dk_42 (dk_at dksJ0_init_0 9 rfl rfl)
theorem dJ0_init_10 : decode cJ0_init 10 = .ok (.getstatic 13, 3) := dk_178 0 13 (dk_at dksJ0_init_0 10 rfl rfl)
theorem dJ0_init_13 : decode cJ0_init 13 = .ok (.putfield 17, 3) := dk_181 0 17 (dk_at dksJ0_init_0 13 rfl rfl)
theorem dJ0_init_16 : decode cJ0_init 16 = .ok (.aload_n 0, 1) := dk_42 (dk_at dksJ0_init_0 16 rfl rfl)
theorem dJ0_init_17 : decode cJ0_init 17 = .ok (.getstatic 20, 3) := dk_178 0 20 (dk_at dksJ0_init_0 17 rfl rfl)
theorem dJ0_init_20 : decode cJ0_init 20 = .ok (.putfield 24, 3) := dk_181 0 24 (dk_at dksJ0_init_0 20 rfl rfl)
theorem dJ0_init_23 : decode cJ0_init 23 = .ok (.aload_n 0, 1) := dk_42 (dk_at dksJ0_init_0 23 rfl rfl)
theorem dJ0_init_24 : decode cJ0_init 24 = .ok (.invokevirtual 27, 3) := dk_182 0 27 (dk_at dksJ0_init_1 0 rfl rfl)
theorem dJ0_init_27 : decode cJ0_init 27 = .ok (.pop, 1) := dk_87 (dk_at dksJ0_init_1 3 rfl rfl)
theorem dJ0_init_28 : decode cJ0_init 28 = .ok (.return_, 1) := dk_177 (dk_at dksJ0_init_1 4 rfl rfl)
abbrev cJ0_init_2 : ByteArray := prog_27_method_5_code
def yJ0_init_2 : MethodName := ⟨RJ0, "<init>", "(Ljava/lang/String;Ljava/lang/Throwable;ZZ)V"⟩
def dkwJ0_init_2_2 : List UInt8 := [44, 181, 0, 7, 29, 154, 0, 8, 42, 1, 181, 0, 24, 177]
abbrev dktJ0_init_2_2 : List UInt8 := dkwJ0_init_2_2 ++ []
def dkwJ0_init_2_1 : List UInt8 := [21, 4, 153, 0, 11, 42, 182, 0, 27, 87, 167, 0, 8, 42, 1, 181, 0, 17, 42, 43, 181, 0, 31, 42]
abbrev dktJ0_init_2_1 : List UInt8 := dkwJ0_init_2_1 ++ dktJ0_init_2_2
def dkwJ0_init_2_0 : List UInt8 := [42, 183, 0, 1, 42, 42, 181, 0, 7, 42, 178, 0, 13, 181, 0, 17, 42, 178, 0, 20, 181, 0, 24]
abbrev dktJ0_init_2_0 : List UInt8 := dkwJ0_init_2_0 ++ dktJ0_init_2_1
theorem dksJ0_init_2_0 : cJ0_init_2.data.toList.drop 0 = dktJ0_init_2_0 := by decide +kernel
theorem dksJ0_init_2_1 : cJ0_init_2.data.toList.drop 23 = dktJ0_init_2_1 := dk_seg dksJ0_init_2_0 23 rfl rfl
theorem dksJ0_init_2_2 : cJ0_init_2.data.toList.drop 47 = dktJ0_init_2_2 := dk_seg dksJ0_init_2_1 24 rfl rfl
theorem dJ0_init_2_0 : decode cJ0_init_2 0 = .ok (.aload_n 0, 1) := dk_42 (dk_at dksJ0_init_2_0 0 rfl rfl)
theorem dJ0_init_2_1 : decode cJ0_init_2 1 = .ok (.invokespecial 1, 3) := dk_183 0 1 (dk_at dksJ0_init_2_0 1 rfl rfl)
theorem dJ0_init_2_4 : decode cJ0_init_2 4 = .ok (.aload_n 0, 1) := dk_42 (dk_at dksJ0_init_2_0 4 rfl rfl)
theorem dJ0_init_2_5 : decode cJ0_init_2 5 = .ok (.aload_n 0, 1) := dk_42 (dk_at dksJ0_init_2_0 5 rfl rfl)
theorem dJ0_init_2_6 : decode cJ0_init_2 6 = .ok (.putfield 7, 3) := dk_181 0 7 (dk_at dksJ0_init_2_0 6 rfl rfl)
theorem dJ0_init_2_9 : decode cJ0_init_2 9 = .ok (.aload_n 0, 1) := dk_42 (dk_at dksJ0_init_2_0 9 rfl rfl)
theorem dJ0_init_2_10 : decode cJ0_init_2 10 = .ok (.getstatic 13, 3) := dk_178 0 13 (dk_at dksJ0_init_2_0 10 rfl rfl)
theorem dJ0_init_2_13 : decode cJ0_init_2 13 = .ok (.putfield 17, 3) := dk_181 0 17 (dk_at dksJ0_init_2_0 13 rfl rfl)
theorem dJ0_init_2_16 : decode cJ0_init_2 16 = .ok (.aload_n 0, 1) := dk_42 (dk_at dksJ0_init_2_0 16 rfl rfl)
theorem dJ0_init_2_17 : decode cJ0_init_2 17 = .ok (.getstatic 20, 3) := dk_178 0 20 (dk_at dksJ0_init_2_0 17 rfl rfl)
theorem dJ0_init_2_20 : decode cJ0_init_2 20 = .ok (.putfield 24, 3) := dk_181 0 24 (dk_at dksJ0_init_2_0 20 rfl rfl)
theorem dJ0_init_2_23 : decode cJ0_init_2 23 = .ok (.iload 4, 2) := dk_21 4 (dk_at dksJ0_init_2_1 0 rfl rfl)
theorem dJ0_init_2_25 : decode cJ0_init_2 25 = .ok (.ifCond .eq 11, 3) := dk_153 0 11 (dk_at dksJ0_init_2_1 2 rfl rfl)
theorem dJ0_init_2_28 : decode cJ0_init_2 28 = .ok (.aload_n 0, 1) := dk_42 (dk_at dksJ0_init_2_1 5 rfl rfl)
theorem dJ0_init_2_29 : decode cJ0_init_2 29 = .ok (.invokevirtual 27, 3) := dk_182 0 27 (dk_at dksJ0_init_2_1 6 rfl rfl)
theorem dJ0_init_2_32 : decode cJ0_init_2 32 = .ok (.pop, 1) := dk_87 (dk_at dksJ0_init_2_1 9 rfl rfl)
theorem dJ0_init_2_33 : decode cJ0_init_2 33 = .ok (.goto 8, 3) := dk_167 0 8 (dk_at dksJ0_init_2_1 10 rfl rfl)
theorem dJ0_init_2_36 : decode cJ0_init_2 36 = .ok (.aload_n 0, 1) := dk_42 (dk_at dksJ0_init_2_1 13 rfl rfl)
theorem dJ0_init_2_37 : decode cJ0_init_2 37 = .ok (.aconst_null, 1) := dk_1 (dk_at dksJ0_init_2_1 14 rfl rfl)
theorem dJ0_init_2_38 : decode cJ0_init_2 38 = .ok (.putfield 17, 3) := dk_181 0 17 (dk_at dksJ0_init_2_1 15 rfl rfl)
theorem dJ0_init_2_41 : decode cJ0_init_2 41 = .ok (.aload_n 0, 1) := dk_42 (dk_at dksJ0_init_2_1 18 rfl rfl)
theorem dJ0_init_2_42 : decode cJ0_init_2 42 = .ok (.aload_n 1, 1) := dk_43 (dk_at dksJ0_init_2_1 19 rfl rfl)
theorem dJ0_init_2_43 : decode cJ0_init_2 43 = .ok (.putfield 31, 3) := dk_181 0 31 (dk_at dksJ0_init_2_1 20 rfl rfl)
theorem dJ0_init_2_46 : decode cJ0_init_2 46 = .ok (.aload_n 0, 1) := dk_42 (dk_at dksJ0_init_2_1 23 rfl rfl)
theorem dJ0_init_2_47 : decode cJ0_init_2 47 = .ok (.aload_n 2, 1) := dk_44 (dk_at dksJ0_init_2_2 0 rfl rfl)
theorem dJ0_init_2_48 : decode cJ0_init_2 48 = .ok (.putfield 7, 3) := dk_181 0 7 (dk_at dksJ0_init_2_2 1 rfl rfl)
theorem dJ0_init_2_51 : decode cJ0_init_2 51 = .ok (.iload_n 3, 1) := dk_29 (dk_at dksJ0_init_2_2 4 rfl rfl)
theorem dJ0_init_2_52 : decode cJ0_init_2 52 = .ok (.ifCond .ne 8, 3) := dk_154 0 8 (dk_at dksJ0_init_2_2 5 rfl rfl)
theorem dJ0_init_2_55 : decode cJ0_init_2 55 = .ok (.aload_n 0, 1) := dk_42 (dk_at dksJ0_init_2_2 8 rfl rfl)
theorem dJ0_init_2_56 : decode cJ0_init_2 56 = .ok (.aconst_null, 1) := dk_1 (dk_at dksJ0_init_2_2 9 rfl rfl)
theorem dJ0_init_2_57 : decode cJ0_init_2 57 = .ok (.putfield 24, 3) := dk_181 0 24 (dk_at dksJ0_init_2_2 10 rfl rfl)
theorem dJ0_init_2_60 : decode cJ0_init_2 60 = .ok (.return_, 1) := dk_177 (dk_at dksJ0_init_2_2 13 rfl rfl)
theorem q85 : (Jvm.Cond.initialized "java/lang/Throwable") ∈ lw_all := lw_g (lw_at lw_m1 3 rfl) rfl
theorem q128 : (Jvm.Cond.declares ({ cls := "java/lang/Throwable", name := "<init>", desc := "()V" } : Jvm.MethodName)) ∈ lw_tbl := lw_at lw_m1 46 rfl
theorem q129 : (Jvm.Cond.declares ({ cls := "java/lang/Throwable", name := "<init>", desc := "(Ljava/lang/String;)V" } : Jvm.MethodName)) ∈ lw_tbl := lw_at lw_m1 47 rfl
theorem q133 : (Jvm.Cond.lays "java/lang/Throwable" "java/lang/Throwable" "cause" "Ljava/lang/Throwable;") ∈ lw_all := lw_g (lw_at lw_m1 51 rfl) rfl
theorem q135 : (Jvm.Cond.lays "java/lang/Throwable" "java/lang/Throwable" "stackTrace" "[Ljava/lang/StackTraceElement;") ∈ lw_all := lw_g (lw_at lw_m1 53 rfl) rfl
theorem q137 : (Jvm.Cond.lays "java/lang/Throwable" "java/lang/Throwable" "suppressedExceptions" "Ljava/util/List;") ∈ lw_all := lw_g (lw_at lw_m1 55 rfl) rfl
theorem q139 : (Jvm.Cond.lays "java/lang/Throwable" "java/lang/Throwable" "detailMessage" "Ljava/lang/String;") ∈ lw_all := lw_g (lw_at lw_m1 57 rfl) rfl
theorem q141 : (Jvm.Cond.lays "java/lang/Throwable" "java/lang/Throwable" "backtrace" "Ljava/lang/Object;") ∈ lw_all := lw_g (lw_at lw_m1 59 rfl) rfl
theorem q142 : (Jvm.Cond.fieldLink "java/lang/Throwable" (198 : Nat) "java/lang/Throwable" "backtrace" "Ljava/lang/Object;") ∈ lw_all := lw_g (lw_at lw_m1 60 rfl) rfl
theorem q143 : (Jvm.Cond.superclass "java/lang/Throwable" "java/lang/Object") ∈ lw_all := lw_g (lw_at lw_m1 61 rfl) rfl
theorem q144 : (Jvm.Cond.instanceMethod ({ cls := "java/lang/Throwable", name := "<init>", desc := "()V" } : Jvm.MethodName)) ∈ lw_all := lw_g (lw_at lw_m1 62 rfl) rfl
theorem q145 : (Jvm.Cond.code ({ cls := "java/lang/Throwable", name := "<init>", desc := "()V" } : Jvm.MethodName) prog_27_method_1_code (1 : Nat) (Option.none : Option Jvm.ClassFile.FieldType)) ∈ lw_all := lw_g (lw_at lw_m1 63 rfl) rfl
theorem q146 : (Jvm.Cond.methodLink "java/lang/Throwable" (1 : Nat) ({ cls := "java/lang/Object", name := "<init>", desc := "()V" } : Jvm.MethodName)) ∈ lw_all := lw_g (lw_at lw_m1 64 rfl) rfl
theorem q147 : (Jvm.Cond.fieldLink "java/lang/Throwable" (13 : Nat) "java/lang/Throwable" "UNASSIGNED_STACK" "[Ljava/lang/StackTraceElement;") ∈ lw_all := lw_g (lw_at lw_m1 65 rfl) rfl
theorem q148 : (Jvm.Cond.laysStatic "java/lang/Throwable" "UNASSIGNED_STACK" "[Ljava/lang/StackTraceElement;") ∈ lw_tbl := lw_at lw_m1 66 rfl
theorem q149 : (Jvm.Cond.fieldLink "java/lang/Throwable" (20 : Nat) "java/lang/Throwable" "SUPPRESSED_SENTINEL" "Ljava/util/List;") ∈ lw_all := lw_g (lw_at lw_m1 67 rfl) rfl
theorem q150 : (Jvm.Cond.laysStatic "java/lang/Throwable" "SUPPRESSED_SENTINEL" "Ljava/util/List;") ∈ lw_tbl := lw_at lw_m1 68 rfl
theorem q151 : (Jvm.Cond.methodLink "java/lang/Throwable" (27 : Nat) ({ cls := "java/lang/Throwable", name := "fillInStackTrace", desc := "()Ljava/lang/Throwable;" } : Jvm.MethodName)) ∈ lw_all := lw_g (lw_at lw_m1 69 rfl) rfl
theorem q152 : (Jvm.Cond.instanceMethod ({ cls := "java/lang/Throwable", name := "fillInStackTrace", desc := "()Ljava/lang/Throwable;" } : Jvm.MethodName)) ∈ lw_all := lw_g (lw_at lw_m1 70 rfl) rfl
theorem q153 : (Jvm.Cond.sameMethod "java/lang/Throwable" "java/lang/Throwable" "fillInStackTrace" "()Ljava/lang/Throwable;") ∈ lw_all := lw_g (lw_at lw_m1 71 rfl) rfl
theorem q155 : (Jvm.Cond.codeSync ({ cls := "java/lang/Throwable", name := "fillInStackTrace", desc := "()Ljava/lang/Throwable;" } : Jvm.MethodName) prog_27_method_18_code (1 : Nat) (Option.some (Jvm.ClassFile.FieldType.object "java/lang/Throwable"))) ∈ lw_all := lw_g (lw_at lw_m1 73 rfl) rfl
theorem q156 : (Jvm.Cond.methodLink "java/lang/Throwable" (202 : Nat) ({ cls := "java/lang/Throwable", name := "fillInStackTrace", desc := "(I)Ljava/lang/Throwable;" } : Jvm.MethodName)) ∈ lw_all := lw_g (lw_at lw_m1 74 rfl) rfl
theorem q157 : (Jvm.Cond.privateMethod ({ cls := "java/lang/Throwable", name := "fillInStackTrace", desc := "(I)Ljava/lang/Throwable;" } : Jvm.MethodName)) ∈ lw_tbl := lw_at lw_m1 75 rfl
theorem q158 : (Jvm.Cond.instanceMethod ({ cls := "java/lang/Throwable", name := "fillInStackTrace", desc := "(I)Ljava/lang/Throwable;" } : Jvm.MethodName)) ∈ lw_all := lw_g (lw_at lw_m1 76 rfl) rfl
theorem q159 : (Jvm.Cond.instantiable "java/lang/Throwable" (6 : Nat)) ∈ lw_all := lw_g (lw_at lw_m1 77 rfl) rfl
theorem q160 : (Jvm.Cond.native ({ cls := "java/lang/Throwable", name := "fillInStackTrace", desc := "(I)Ljava/lang/Throwable;" } : Jvm.MethodName)) ∈ lw_all := lw_g (lw_at lw_m1 78 rfl) rfl
theorem q171 : (Jvm.Cond.instanceMethod ({ cls := "java/lang/Throwable", name := "<init>", desc := "(Ljava/lang/String;Ljava/lang/Throwable;ZZ)V" } : Jvm.MethodName)) ∈ lw_all := lw_g (lw_at lw_m1 89 rfl) rfl
theorem q172 : (Jvm.Cond.code ({ cls := "java/lang/Throwable", name := "<init>", desc := "(Ljava/lang/String;Ljava/lang/Throwable;ZZ)V" } : Jvm.MethodName) prog_27_method_5_code (5 : Nat) (Option.none : Option Jvm.ClassFile.FieldType)) ∈ lw_all := lw_g (lw_at lw_m1 90 rfl) rfl
theorem q177 : (Jvm.Cond.fieldLink "java/lang/Throwable" (198 : Nat) "java/lang/Throwable" "backtrace" "Ljava/lang/Object;") ∈ lw_all := lw_g (lw_at lw_m1 95 rfl) rfl
theorem q178 : (Jvm.Cond.fieldLink "java/lang/Throwable" (31 : Nat) "java/lang/Throwable" "detailMessage" "Ljava/lang/String;") ∈ lw_all := lw_g (lw_at lw_m1 96 rfl) rfl
theorem q179 : (Jvm.Cond.fieldLink "java/lang/Throwable" (7 : Nat) "java/lang/Throwable" "cause" "Ljava/lang/Throwable;") ∈ lw_all := lw_g (lw_at lw_m1 97 rfl) rfl
theorem q180 : (Jvm.Cond.fieldLink "java/lang/Throwable" (17 : Nat) "java/lang/Throwable" "stackTrace" "[Ljava/lang/StackTraceElement;") ∈ lw_all := lw_g (lw_at lw_m1 98 rfl) rfl
theorem q181 : (Jvm.Cond.fieldLink "java/lang/Throwable" (24 : Nat) "java/lang/Throwable" "suppressedExceptions" "Ljava/util/List;") ∈ lw_all := lw_g (lw_at lw_m1 99 rfl) rfl
theorem q186 : (Jvm.Cond.soleField "java/lang/Throwable" "backtrace") ∈ lw_all := lw_g (lw_at lw_m1 104 rfl) rfl
theorem q187 : (Jvm.Cond.soleField "java/lang/Throwable" "detailMessage") ∈ lw_all := lw_g (lw_at lw_m1 105 rfl) rfl
theorem q188 : (Jvm.Cond.soleField "java/lang/Throwable" "cause") ∈ lw_all := lw_g (lw_at lw_m1 106 rfl) rfl
theorem q189 : (Jvm.Cond.soleField "java/lang/Throwable" "stackTrace") ∈ lw_all := lw_g (lw_at lw_m1 107 rfl) rfl
theorem q191 : (Jvm.Cond.soleField "java/lang/Throwable" "depth") ∈ lw_all := lw_g (lw_at lw_m1 109 rfl) rfl
theorem q192 : (Jvm.Cond.soleField "java/lang/Throwable" "suppressedExceptions") ∈ lw_all := lw_g (lw_at lw_m1 110 rfl) rfl
theorem q1694 : (Jvm.Cond.sameMethod "java/lang/Throwable" "java/lang/Throwable" "fillInStackTrace" "(I)Ljava/lang/Throwable;") ∈ lw_all := lw_g (lw_at lw_m7 172 rfl) rfl
theorem q1710 : (Jvm.Cond.castable "java/lang/Throwable" "java/lang/Object") ∈ lw_tbl := lw_at lw_m7 188 rfl
theorem in_J0 : ∀ w ∈ wsJ00, w ∈ lw_all := lw_in wsJ00 [133, 135, 137, 139, 141] (by decide +kernel) (by decide +kernel)

/-! java/lang/Exception -/
set_option maxRecDepth 100000
def RJ1 : String := "java/lang/Exception"
abbrev cJ1_init : ByteArray := prog_19_method_5_code
def yJ1_init : MethodName := ⟨RJ1, "<init>", "(Ljava/lang/String;Ljava/lang/Throwable;ZZ)V"⟩
def dkwJ1_init_0 : List UInt8 := [42, 43, 44, 29, 21, 4, 183, 0, 16, 177]
abbrev dktJ1_init_0 : List UInt8 := dkwJ1_init_0 ++ []
theorem dksJ1_init_0 : cJ1_init.data.toList.drop 0 = dktJ1_init_0 := by decide +kernel
theorem dJ1_init_0 : decode cJ1_init 0 = .ok (.aload_n 0, 1) := dk_42 (dk_at dksJ1_init_0 0 rfl rfl)
theorem dJ1_init_1 : decode cJ1_init 1 = .ok (.aload_n 1, 1) := dk_43 (dk_at dksJ1_init_0 1 rfl rfl)
theorem dJ1_init_2 : decode cJ1_init 2 = .ok (.aload_n 2, 1) := dk_44 (dk_at dksJ1_init_0 2 rfl rfl)
theorem dJ1_init_3 : decode cJ1_init 3 = .ok (.iload_n 3, 1) := dk_29 (dk_at dksJ1_init_0 3 rfl rfl)
theorem dJ1_init_4 : decode cJ1_init 4 = .ok (.iload 4, 2) := dk_21 4 (dk_at dksJ1_init_0 4 rfl rfl)
theorem dJ1_init_6 : decode cJ1_init 6 = .ok (.invokespecial 16, 3) := dk_183 0 16 (dk_at dksJ1_init_0 6 rfl rfl)
theorem dJ1_init_9 : decode cJ1_init 9 = .ok (.return_, 1) := dk_177 (dk_at dksJ1_init_0 9 rfl rfl)
abbrev cJ1_init_2 : ByteArray := prog_19_method_1_code
def yJ1_init_2 : MethodName := ⟨RJ1, "<init>", "()V"⟩
theorem dJ1_init_2_0 : decode cJ1_init_2 0 = .ok (.aload_n 0, 1) := by decide +kernel
theorem dJ1_init_2_1 : decode cJ1_init_2 1 = .ok (.invokespecial 1, 3) := by decide +kernel
theorem dJ1_init_2_4 : decode cJ1_init_2 4 = .ok (.return_, 1) := by decide +kernel
theorem q86 : (Jvm.Cond.initialized "java/lang/Exception") ∈ lw_all := lw_g (lw_at lw_m1 4 rfl) rfl
theorem q126 : (Jvm.Cond.declares ({ cls := "java/lang/Exception", name := "<init>", desc := "()V" } : Jvm.MethodName)) ∈ lw_tbl := lw_at lw_m1 44 rfl
theorem q127 : (Jvm.Cond.declares ({ cls := "java/lang/Exception", name := "<init>", desc := "(Ljava/lang/String;)V" } : Jvm.MethodName)) ∈ lw_tbl := lw_at lw_m1 45 rfl
theorem q168 : (Jvm.Cond.instanceMethod ({ cls := "java/lang/Exception", name := "<init>", desc := "(Ljava/lang/String;Ljava/lang/Throwable;ZZ)V" } : Jvm.MethodName)) ∈ lw_all := lw_g (lw_at lw_m1 86 rfl) rfl
theorem q169 : (Jvm.Cond.code ({ cls := "java/lang/Exception", name := "<init>", desc := "(Ljava/lang/String;Ljava/lang/Throwable;ZZ)V" } : Jvm.MethodName) prog_19_method_5_code (5 : Nat) (Option.none : Option Jvm.ClassFile.FieldType)) ∈ lw_all := lw_g (lw_at lw_m1 87 rfl) rfl
theorem q170 : (Jvm.Cond.methodLink "java/lang/Exception" (16 : Nat) ({ cls := "java/lang/Throwable", name := "<init>", desc := "(Ljava/lang/String;Ljava/lang/Throwable;ZZ)V" } : Jvm.MethodName)) ∈ lw_all := lw_g (lw_at lw_m1 88 rfl) rfl
theorem q1130 : (Jvm.Cond.instanceMethod ({ cls := "java/lang/Exception", name := "<init>", desc := "()V" } : Jvm.MethodName)) ∈ lw_all := lw_g (lw_at lw_m5 88 rfl) rfl
theorem q1131 : (Jvm.Cond.code ({ cls := "java/lang/Exception", name := "<init>", desc := "()V" } : Jvm.MethodName) prog_19_method_1_code (1 : Nat) (Option.none : Option Jvm.ClassFile.FieldType)) ∈ lw_all := lw_g (lw_at lw_m5 89 rfl) rfl
theorem q1132 : (Jvm.Cond.methodLink "java/lang/Exception" (1 : Nat) ({ cls := "java/lang/Throwable", name := "<init>", desc := "()V" } : Jvm.MethodName)) ∈ lw_all := lw_g (lw_at lw_m5 90 rfl) rfl

/-! java/lang/RuntimeException -/
set_option maxRecDepth 100000
def RJ2 : String := "java/lang/RuntimeException"
abbrev cJ2_init : ByteArray := prog_21_method_5_code
def yJ2_init : MethodName := ⟨RJ2, "<init>", "(Ljava/lang/String;Ljava/lang/Throwable;ZZ)V"⟩
def dkwJ2_init_0 : List UInt8 := [42, 43, 44, 29, 21, 4, 183, 0, 16, 177]
abbrev dktJ2_init_0 : List UInt8 := dkwJ2_init_0 ++ []
theorem dksJ2_init_0 : cJ2_init.data.toList.drop 0 = dktJ2_init_0 := by decide +kernel
theorem dJ2_init_0 : decode cJ2_init 0 = .ok (.aload_n 0, 1) := dk_42 (dk_at dksJ2_init_0 0 rfl rfl)
theorem dJ2_init_1 : decode cJ2_init 1 = .ok (.aload_n 1, 1) := dk_43 (dk_at dksJ2_init_0 1 rfl rfl)
theorem dJ2_init_2 : decode cJ2_init 2 = .ok (.aload_n 2, 1) := dk_44 (dk_at dksJ2_init_0 2 rfl rfl)
theorem dJ2_init_3 : decode cJ2_init 3 = .ok (.iload_n 3, 1) := dk_29 (dk_at dksJ2_init_0 3 rfl rfl)
theorem dJ2_init_4 : decode cJ2_init 4 = .ok (.iload 4, 2) := dk_21 4 (dk_at dksJ2_init_0 4 rfl rfl)
theorem dJ2_init_6 : decode cJ2_init 6 = .ok (.invokespecial 16, 3) := dk_183 0 16 (dk_at dksJ2_init_0 6 rfl rfl)
theorem dJ2_init_9 : decode cJ2_init 9 = .ok (.return_, 1) := dk_177 (dk_at dksJ2_init_0 9 rfl rfl)
abbrev cJ2_init_2 : ByteArray := prog_21_method_1_code
def yJ2_init_2 : MethodName := ⟨RJ2, "<init>", "()V"⟩
theorem dJ2_init_2_0 : decode cJ2_init_2 0 = .ok (.aload_n 0, 1) := by decide +kernel
theorem dJ2_init_2_1 : decode cJ2_init_2 1 = .ok (.invokespecial 1, 3) := by decide +kernel
theorem dJ2_init_2_4 : decode cJ2_init_2 4 = .ok (.return_, 1) := by decide +kernel
theorem q87 : (Jvm.Cond.initialized "java/lang/RuntimeException") ∈ lw_all := lw_g (lw_at lw_m1 5 rfl) rfl
theorem q124 : (Jvm.Cond.declares ({ cls := "java/lang/RuntimeException", name := "<init>", desc := "()V" } : Jvm.MethodName)) ∈ lw_tbl := lw_at lw_m1 42 rfl
theorem q125 : (Jvm.Cond.declares ({ cls := "java/lang/RuntimeException", name := "<init>", desc := "(Ljava/lang/String;)V" } : Jvm.MethodName)) ∈ lw_tbl := lw_at lw_m1 43 rfl
theorem q165 : (Jvm.Cond.instanceMethod ({ cls := "java/lang/RuntimeException", name := "<init>", desc := "(Ljava/lang/String;Ljava/lang/Throwable;ZZ)V" } : Jvm.MethodName)) ∈ lw_all := lw_g (lw_at lw_m1 83 rfl) rfl
theorem q166 : (Jvm.Cond.code ({ cls := "java/lang/RuntimeException", name := "<init>", desc := "(Ljava/lang/String;Ljava/lang/Throwable;ZZ)V" } : Jvm.MethodName) prog_21_method_5_code (5 : Nat) (Option.none : Option Jvm.ClassFile.FieldType)) ∈ lw_all := lw_g (lw_at lw_m1 84 rfl) rfl
theorem q167 : (Jvm.Cond.methodLink "java/lang/RuntimeException" (16 : Nat) ({ cls := "java/lang/Exception", name := "<init>", desc := "(Ljava/lang/String;Ljava/lang/Throwable;ZZ)V" } : Jvm.MethodName)) ∈ lw_all := lw_g (lw_at lw_m1 85 rfl) rfl
theorem q1127 : (Jvm.Cond.instanceMethod ({ cls := "java/lang/RuntimeException", name := "<init>", desc := "()V" } : Jvm.MethodName)) ∈ lw_all := lw_g (lw_at lw_m5 85 rfl) rfl
theorem q1128 : (Jvm.Cond.code ({ cls := "java/lang/RuntimeException", name := "<init>", desc := "()V" } : Jvm.MethodName) prog_21_method_1_code (1 : Nat) (Option.none : Option Jvm.ClassFile.FieldType)) ∈ lw_all := lw_g (lw_at lw_m5 86 rfl) rfl
theorem q1129 : (Jvm.Cond.methodLink "java/lang/RuntimeException" (1 : Nat) ({ cls := "java/lang/Exception", name := "<init>", desc := "()V" } : Jvm.MethodName)) ∈ lw_all := lw_g (lw_at lw_m5 87 rfl) rfl

/-! java/lang/String -/
set_option maxRecDepth 100000
def RJ3 : String := "java/lang/String"
def TJ3 : u_T := fun k => match k with
  | 0 => ("java/lang/String", "value", "[B", true)
  | 1 => ("java/lang/String", "coder", "B", true)
  | 2 => ("java/lang/String", "hash", "I", false)
  | _ => ("java/lang/String", "hashIsZero", "Z", false)
def tyJ3 : Nat → FieldType := fun k => match k with
  | 0 => .array .byte
  | 1 => .byte
  | 2 => .int
  | _ => .boolean
abbrev wsJ30 : List Cond := u_ws RJ3 TJ3 4
theorem nmJ3 : ∀ a, a < 4 → ∀ b, b < 4 → a ≠ b → (TJ3 a).2.1 ≠ (TJ3 b).2.1 := by decide +kernel
theorem tyJ3_ok : ∀ k, k < 4 → parseFieldDescriptor (TJ3 k).2.2.1 = some (tyJ3 k) := by decide +kernel
abbrev cJ3_init : ByteArray := prog_22_method_4_code
def yJ3_init : MethodName := ⟨RJ3, "<init>", "([CII)V"⟩
def dkwJ3_init_0 : List UInt8 := [42, 43, 28, 29, 43, 28, 29, 184, 0, 30, 183, 0, 27, 177]
abbrev dktJ3_init_0 : List UInt8 := dkwJ3_init_0 ++ []
theorem dksJ3_init_0 : cJ3_init.data.toList.drop 0 = dktJ3_init_0 := by decide +kernel
theorem dJ3_init_0 : decode cJ3_init 0 = .ok (.aload_n 0, 1) := dk_42 (dk_at dksJ3_init_0 0 rfl rfl)
theorem dJ3_init_1 : decode cJ3_init 1 = .ok (.aload_n 1, 1) := dk_43 (dk_at dksJ3_init_0 1 rfl rfl)
theorem dJ3_init_2 : decode cJ3_init 2 = .ok (.iload_n 2, 1) := dk_28 (dk_at dksJ3_init_0 2 rfl rfl)
theorem dJ3_init_3 : decode cJ3_init 3 = .ok (.iload_n 3, 1) := dk_29 (dk_at dksJ3_init_0 3 rfl rfl)
theorem dJ3_init_4 : decode cJ3_init 4 = .ok (.aload_n 1, 1) := dk_43 (dk_at dksJ3_init_0 4 rfl rfl)
theorem dJ3_init_5 : decode cJ3_init 5 = .ok (.iload_n 2, 1) := dk_28 (dk_at dksJ3_init_0 5 rfl rfl)
theorem dJ3_init_6 : decode cJ3_init 6 = .ok (.iload_n 3, 1) := dk_29 (dk_at dksJ3_init_0 6 rfl rfl)
theorem dJ3_init_7 : decode cJ3_init 7 = .ok (.invokestatic 30, 3) := dk_184 0 30 (dk_at dksJ3_init_0 7 rfl rfl)
theorem dJ3_init_10 : decode cJ3_init 10 = .ok (.invokespecial 27, 3) := dk_183 0 27 (dk_at dksJ3_init_0 10 rfl rfl)
theorem dJ3_init_13 : decode cJ3_init 13 = .ok (.return_, 1) := dk_177 (dk_at dksJ3_init_0 13 rfl rfl)
abbrev cJ3_rangeCheck : ByteArray := prog_22_method_5_code
def yJ3_rangeCheck : MethodName := ⟨RJ3, "rangeCheck", "([CII)Ljava/lang/Void;"⟩
def dkwJ3_rangeCheck_0 : List UInt8 := [27, 28, 42, 190, 184, 0, 34, 87, 1, 176]
abbrev dktJ3_rangeCheck_0 : List UInt8 := dkwJ3_rangeCheck_0 ++ []
theorem dksJ3_rangeCheck_0 : cJ3_rangeCheck.data.toList.drop 0 = dktJ3_rangeCheck_0 := by decide +kernel
theorem dJ3_rangeCheck_0 : decode cJ3_rangeCheck 0 = .ok (.iload_n 1, 1) := dk_27 (dk_at dksJ3_rangeCheck_0 0 rfl rfl)
theorem dJ3_rangeCheck_1 : decode cJ3_rangeCheck 1 = .ok (.iload_n 2, 1) := dk_28 (dk_at dksJ3_rangeCheck_0 1 rfl rfl)
theorem dJ3_rangeCheck_2 : decode cJ3_rangeCheck 2 = .ok (.aload_n 0, 1) := dk_42 (dk_at dksJ3_rangeCheck_0 2 rfl rfl)
theorem dJ3_rangeCheck_3 : decode cJ3_rangeCheck 3 = .ok (.arraylength, 1) := dk_190 (dk_at dksJ3_rangeCheck_0 3 rfl rfl)
theorem dJ3_rangeCheck_4 : decode cJ3_rangeCheck 4 = .ok (.invokestatic 34, 3) := dk_184 0 34 (dk_at dksJ3_rangeCheck_0 4 rfl rfl)
theorem dJ3_rangeCheck_7 : decode cJ3_rangeCheck 7 = .ok (.pop, 1) := dk_87 (dk_at dksJ3_rangeCheck_0 7 rfl rfl)
theorem dJ3_rangeCheck_8 : decode cJ3_rangeCheck 8 = .ok (.aconst_null, 1) := dk_1 (dk_at dksJ3_rangeCheck_0 8 rfl rfl)
theorem dJ3_rangeCheck_9 : decode cJ3_rangeCheck 9 = .ok (.areturn, 1) := dk_176 (dk_at dksJ3_rangeCheck_0 9 rfl rfl)
abbrev cJ3_checkBoundsOffCount : ByteArray := prog_22_method_157_code
def yJ3_checkBoundsOffCount : MethodName := ⟨RJ3, "checkBoundsOffCount", "(III)I"⟩
def dkwJ3_checkBoundsOffCount_0 : List UInt8 := [26, 27, 28, 178, 4, 29, 184, 4, 41, 172]
abbrev dktJ3_checkBoundsOffCount_0 : List UInt8 := dkwJ3_checkBoundsOffCount_0 ++ []
theorem dksJ3_checkBoundsOffCount_0 : cJ3_checkBoundsOffCount.data.toList.drop 0 = dktJ3_checkBoundsOffCount_0 := by decide +kernel
theorem dJ3_checkBoundsOffCount_0 : decode cJ3_checkBoundsOffCount 0 = .ok (.iload_n 0, 1) := dk_26 (dk_at dksJ3_checkBoundsOffCount_0 0 rfl rfl)
theorem dJ3_checkBoundsOffCount_1 : decode cJ3_checkBoundsOffCount 1 = .ok (.iload_n 1, 1) := dk_27 (dk_at dksJ3_checkBoundsOffCount_0 1 rfl rfl)
theorem dJ3_checkBoundsOffCount_2 : decode cJ3_checkBoundsOffCount 2 = .ok (.iload_n 2, 1) := dk_28 (dk_at dksJ3_checkBoundsOffCount_0 2 rfl rfl)
theorem dJ3_checkBoundsOffCount_3 : decode cJ3_checkBoundsOffCount 3 = .ok (.getstatic 1053, 3) := dk_178 4 29 (dk_at dksJ3_checkBoundsOffCount_0 3 rfl rfl)
theorem dJ3_checkBoundsOffCount_6 : decode cJ3_checkBoundsOffCount 6 = .ok (.invokestatic 1065, 3) := dk_184 4 41 (dk_at dksJ3_checkBoundsOffCount_0 6 rfl rfl)
theorem dJ3_checkBoundsOffCount_9 : decode cJ3_checkBoundsOffCount 9 = .ok (.ireturn, 1) := dk_172 (dk_at dksJ3_checkBoundsOffCount_0 9 rfl rfl)
abbrev cJ3_init_2 : ByteArray := prog_22_method_149_code
def yJ3_init_2 : MethodName := ⟨RJ3, "<init>", "([CIILjava/lang/Void;)V"⟩
def dkwJ3_init_2_3 : List UInt8 := [184, 0, 180, 181, 0, 9, 177]
abbrev dktJ3_init_2_3 : List UInt8 := dkwJ3_init_2_3 ++ []
def dkwJ3_init_2_2 : List UInt8 := [184, 0, 47, 181, 0, 15, 42, 25, 5, 181, 0, 9, 177, 42, 4, 181, 0, 15, 42, 43, 28, 29]
abbrev dktJ3_init_2_2 : List UInt8 := dkwJ3_init_2_2 ++ dktJ3_init_2_3
def dkwJ3_init_2_1 : List UInt8 := [181, 0, 15, 177, 178, 0, 38, 153, 0, 28, 43, 28, 29, 184, 0, 177, 58, 5, 42, 25, 5, 29]
abbrev dktJ3_init_2_1 : List UInt8 := dkwJ3_init_2_1 ++ dktJ3_init_2_2
def dkwJ3_init_2_0 : List UInt8 := [42, 183, 0, 1, 29, 154, 0, 22, 42, 18, 7, 180, 0, 9, 181, 0, 9, 42, 18, 7, 180, 0, 15]
abbrev dktJ3_init_2_0 : List UInt8 := dkwJ3_init_2_0 ++ dktJ3_init_2_1
theorem dksJ3_init_2_0 : cJ3_init_2.data.toList.drop 0 = dktJ3_init_2_0 := by decide +kernel
theorem dksJ3_init_2_1 : cJ3_init_2.data.toList.drop 23 = dktJ3_init_2_1 := dk_seg dksJ3_init_2_0 23 rfl rfl
theorem dksJ3_init_2_2 : cJ3_init_2.data.toList.drop 45 = dktJ3_init_2_2 := dk_seg dksJ3_init_2_1 22 rfl rfl
theorem dksJ3_init_2_3 : cJ3_init_2.data.toList.drop 67 = dktJ3_init_2_3 := dk_seg dksJ3_init_2_2 22 rfl rfl
theorem dJ3_init_2_0 : decode cJ3_init_2 0 = .ok (.aload_n 0, 1) := dk_42 (dk_at dksJ3_init_2_0 0 rfl rfl)
theorem dJ3_init_2_1 : decode cJ3_init_2 1 = .ok (.invokespecial 1, 3) := dk_183 0 1 (dk_at dksJ3_init_2_0 1 rfl rfl)
theorem dJ3_init_2_4 : decode cJ3_init_2 4 = .ok (.iload_n 3, 1) := dk_29 (dk_at dksJ3_init_2_0 4 rfl rfl)
theorem dJ3_init_2_5 : decode cJ3_init_2 5 = .ok (.ifCond .ne 22, 3) := dk_154 0 22 (dk_at dksJ3_init_2_0 5 rfl rfl)
theorem dJ3_init_2_8 : decode cJ3_init_2 8 = .ok (.aload_n 0, 1) := dk_42 (dk_at dksJ3_init_2_0 8 rfl rfl)
theorem dJ3_init_2_9 : decode cJ3_init_2 9 = .ok (.ldc 7, 2) := dk_18 7 (dk_at dksJ3_init_2_0 9 rfl rfl)
theorem dJ3_init_2_11 : decode cJ3_init_2 11 = .ok (.getfield 9, 3) := dk_180 0 9 (dk_at dksJ3_init_2_0 11 rfl rfl)
theorem dJ3_init_2_14 : decode cJ3_init_2 14 = .ok (.putfield 9, 3) := dk_181 0 9 (dk_at dksJ3_init_2_0 14 rfl rfl)
theorem dJ3_init_2_17 : decode cJ3_init_2 17 = .ok (.aload_n 0, 1) := dk_42 (dk_at dksJ3_init_2_0 17 rfl rfl)
theorem dJ3_init_2_18 : decode cJ3_init_2 18 = .ok (.ldc 7, 2) := dk_18 7 (dk_at dksJ3_init_2_0 18 rfl rfl)
theorem dJ3_init_2_20 : decode cJ3_init_2 20 = .ok (.getfield 15, 3) := dk_180 0 15 (dk_at dksJ3_init_2_0 20 rfl rfl)
theorem dJ3_init_2_23 : decode cJ3_init_2 23 = .ok (.putfield 15, 3) := dk_181 0 15 (dk_at dksJ3_init_2_1 0 rfl rfl)
theorem dJ3_init_2_26 : decode cJ3_init_2 26 = .ok (.return_, 1) := dk_177 (dk_at dksJ3_init_2_1 3 rfl rfl)
theorem dJ3_init_2_27 : decode cJ3_init_2 27 = .ok (.getstatic 38, 3) := dk_178 0 38 (dk_at dksJ3_init_2_1 4 rfl rfl)
theorem dJ3_init_2_30 : decode cJ3_init_2 30 = .ok (.ifCond .eq 28, 3) := dk_153 0 28 (dk_at dksJ3_init_2_1 7 rfl rfl)
theorem dJ3_init_2_33 : decode cJ3_init_2 33 = .ok (.aload_n 1, 1) := dk_43 (dk_at dksJ3_init_2_1 10 rfl rfl)
theorem dJ3_init_2_34 : decode cJ3_init_2 34 = .ok (.iload_n 2, 1) := dk_28 (dk_at dksJ3_init_2_1 11 rfl rfl)
theorem dJ3_init_2_35 : decode cJ3_init_2 35 = .ok (.iload_n 3, 1) := dk_29 (dk_at dksJ3_init_2_1 12 rfl rfl)
theorem dJ3_init_2_36 : decode cJ3_init_2 36 = .ok (.invokestatic 177, 3) := dk_184 0 177 (dk_at dksJ3_init_2_1 13 rfl rfl)
theorem dJ3_init_2_39 : decode cJ3_init_2 39 = .ok (.astore 5, 2) := dk_58 5 (dk_at dksJ3_init_2_1 16 rfl rfl)
theorem dJ3_init_2_41 : decode cJ3_init_2 41 = .ok (.aload_n 0, 1) := dk_42 (dk_at dksJ3_init_2_1 18 rfl rfl)
theorem dJ3_init_2_42 : decode cJ3_init_2 42 = .ok (.aload 5, 2) := dk_25 5 (dk_at dksJ3_init_2_1 19 rfl rfl)
theorem dJ3_init_2_44 : decode cJ3_init_2 44 = .ok (.iload_n 3, 1) := dk_29 (dk_at dksJ3_init_2_1 21 rfl rfl)
theorem dJ3_init_2_45 : decode cJ3_init_2 45 = .ok (.invokestatic 47, 3) := dk_184 0 47 (dk_at dksJ3_init_2_2 0 rfl rfl)
theorem dJ3_init_2_48 : decode cJ3_init_2 48 = .ok (.putfield 15, 3) := dk_181 0 15 (dk_at dksJ3_init_2_2 3 rfl rfl)
theorem dJ3_init_2_51 : decode cJ3_init_2 51 = .ok (.aload_n 0, 1) := dk_42 (dk_at dksJ3_init_2_2 6 rfl rfl)
theorem dJ3_init_2_52 : decode cJ3_init_2 52 = .ok (.aload 5, 2) := dk_25 5 (dk_at dksJ3_init_2_2 7 rfl rfl)
theorem dJ3_init_2_54 : decode cJ3_init_2 54 = .ok (.putfield 9, 3) := dk_181 0 9 (dk_at dksJ3_init_2_2 9 rfl rfl)
theorem dJ3_init_2_57 : decode cJ3_init_2 57 = .ok (.return_, 1) := dk_177 (dk_at dksJ3_init_2_2 12 rfl rfl)
theorem dJ3_init_2_58 : decode cJ3_init_2 58 = .ok (.aload_n 0, 1) := dk_42 (dk_at dksJ3_init_2_2 13 rfl rfl)
theorem dJ3_init_2_59 : decode cJ3_init_2 59 = .ok (.iconst 1, 1) := dk_4 (dk_at dksJ3_init_2_2 14 rfl rfl)
theorem dJ3_init_2_60 : decode cJ3_init_2 60 = .ok (.putfield 15, 3) := dk_181 0 15 (dk_at dksJ3_init_2_2 15 rfl rfl)
theorem dJ3_init_2_63 : decode cJ3_init_2 63 = .ok (.aload_n 0, 1) := dk_42 (dk_at dksJ3_init_2_2 18 rfl rfl)
theorem dJ3_init_2_64 : decode cJ3_init_2 64 = .ok (.aload_n 1, 1) := dk_43 (dk_at dksJ3_init_2_2 19 rfl rfl)
theorem dJ3_init_2_65 : decode cJ3_init_2 65 = .ok (.iload_n 2, 1) := dk_28 (dk_at dksJ3_init_2_2 20 rfl rfl)
theorem dJ3_init_2_66 : decode cJ3_init_2 66 = .ok (.iload_n 3, 1) := dk_29 (dk_at dksJ3_init_2_2 21 rfl rfl)
theorem dJ3_init_2_67 : decode cJ3_init_2 67 = .ok (.invokestatic 180, 3) := dk_184 0 180 (dk_at dksJ3_init_2_3 0 rfl rfl)
theorem dJ3_init_2_70 : decode cJ3_init_2 70 = .ok (.putfield 9, 3) := dk_181 0 9 (dk_at dksJ3_init_2_3 3 rfl rfl)
theorem dJ3_init_2_73 : decode cJ3_init_2 73 = .ok (.return_, 1) := dk_177 (dk_at dksJ3_init_2_3 6 rfl rfl)
abbrev cJ3_hashCode : ByteArray := prog_22_method_78_code
def yJ3_hashCode : MethodName := ⟨RJ3, "hashCode", "()I"⟩
def dkwJ3_hashCode_2 : List UInt8 := [181, 0, 23, 167, 0, 8, 42, 27, 181, 0, 19, 27, 172]
abbrev dktJ3_hashCode_2 : List UInt8 := dkwJ3_hashCode_2 ++ []
def dkwJ3_hashCode_1 : List UInt8 := [180, 0, 9, 184, 2, 116, 167, 0, 10, 42, 180, 0, 9, 184, 2, 120, 60, 27, 154, 0, 11, 42, 4]
abbrev dktJ3_hashCode_1 : List UInt8 := dkwJ3_hashCode_1 ++ dktJ3_hashCode_2
def dkwJ3_hashCode_0 : List UInt8 := [42, 180, 0, 19, 60, 27, 154, 0, 52, 42, 180, 0, 23, 154, 0, 45, 42, 182, 1, 236, 153, 0, 13, 42]
abbrev dktJ3_hashCode_0 : List UInt8 := dkwJ3_hashCode_0 ++ dktJ3_hashCode_1
theorem dksJ3_hashCode_0 : cJ3_hashCode.data.toList.drop 0 = dktJ3_hashCode_0 := by decide +kernel
theorem dksJ3_hashCode_1 : cJ3_hashCode.data.toList.drop 24 = dktJ3_hashCode_1 := dk_seg dksJ3_hashCode_0 24 rfl rfl
theorem dksJ3_hashCode_2 : cJ3_hashCode.data.toList.drop 47 = dktJ3_hashCode_2 := dk_seg dksJ3_hashCode_1 23 rfl rfl
theorem dJ3_hashCode_0 : decode cJ3_hashCode 0 = .ok (.aload_n 0, 1) := dk_42 (dk_at dksJ3_hashCode_0 0 rfl rfl)
theorem dJ3_hashCode_1 : decode cJ3_hashCode 1 = .ok (.getfield 19, 3) := dk_180 0 19 (dk_at dksJ3_hashCode_0 1 rfl rfl)
theorem dJ3_hashCode_4 : decode cJ3_hashCode 4 = .ok (.istore_n 1, 1) := dk_60 (dk_at dksJ3_hashCode_0 4 rfl rfl)
theorem dJ3_hashCode_5 : decode cJ3_hashCode 5 = .ok (.iload_n 1, 1) := dk_27 (dk_at dksJ3_hashCode_0 5 rfl rfl)
theorem dJ3_hashCode_6 : decode cJ3_hashCode 6 = .ok (.ifCond .ne 52, 3) := dk_154 0 52 (dk_at dksJ3_hashCode_0 6 rfl rfl)
theorem dJ3_hashCode_9 : decode cJ3_hashCode 9 = .ok (.aload_n 0, 1) := dk_42 (dk_at dksJ3_hashCode_0 9 rfl rfl)
theorem dJ3_hashCode_10 : decode cJ3_hashCode 10 = .ok (.getfield 23, 3) := dk_180 0 23 (dk_at dksJ3_hashCode_0 10 rfl rfl)
theorem dJ3_hashCode_13 : decode cJ3_hashCode 13 = .ok (.ifCond .ne 45, 3) := dk_154 0 45 (dk_at dksJ3_hashCode_0 13 rfl rfl)
theorem dJ3_hashCode_16 : decode cJ3_hashCode 16 = .ok (.aload_n 0, 1) := dk_42 (dk_at dksJ3_hashCode_0 16 rfl rfl)
theorem dJ3_hashCode_17 : decode cJ3_hashCode 17 = .ok (.invokevirtual 492, 3) := dk_182 1 236 (dk_at dksJ3_hashCode_0 17 rfl rfl)
theorem dJ3_hashCode_20 : decode cJ3_hashCode 20 = .ok (.ifCond .eq 13, 3) := dk_153 0 13 (dk_at dksJ3_hashCode_0 20 rfl rfl)
theorem dJ3_hashCode_23 : decode cJ3_hashCode 23 = .ok (.aload_n 0, 1) := dk_42 (dk_at dksJ3_hashCode_0 23 rfl rfl)
theorem dJ3_hashCode_24 : decode cJ3_hashCode 24 = .ok (.getfield 9, 3) := dk_180 0 9 (dk_at dksJ3_hashCode_1 0 rfl rfl)
theorem dJ3_hashCode_27 : decode cJ3_hashCode 27 = .ok (.invokestatic 628, 3) := dk_184 2 116 (dk_at dksJ3_hashCode_1 3 rfl rfl)
theorem dJ3_hashCode_30 : decode cJ3_hashCode 30 = .ok (.goto 10, 3) := dk_167 0 10 (dk_at dksJ3_hashCode_1 6 rfl rfl)
theorem dJ3_hashCode_33 : decode cJ3_hashCode 33 = .ok (.aload_n 0, 1) := dk_42 (dk_at dksJ3_hashCode_1 9 rfl rfl)
theorem dJ3_hashCode_34 : decode cJ3_hashCode 34 = .ok (.getfield 9, 3) := dk_180 0 9 (dk_at dksJ3_hashCode_1 10 rfl rfl)
theorem dJ3_hashCode_37 : decode cJ3_hashCode 37 = .ok (.invokestatic 632, 3) := dk_184 2 120 (dk_at dksJ3_hashCode_1 13 rfl rfl)
theorem dJ3_hashCode_40 : decode cJ3_hashCode 40 = .ok (.istore_n 1, 1) := dk_60 (dk_at dksJ3_hashCode_1 16 rfl rfl)
theorem dJ3_hashCode_41 : decode cJ3_hashCode 41 = .ok (.iload_n 1, 1) := dk_27 (dk_at dksJ3_hashCode_1 17 rfl rfl)
theorem dJ3_hashCode_42 : decode cJ3_hashCode 42 = .ok (.ifCond .ne 11, 3) := dk_154 0 11 (dk_at dksJ3_hashCode_1 18 rfl rfl)
theorem dJ3_hashCode_45 : decode cJ3_hashCode 45 = .ok (.aload_n 0, 1) := dk_42 (dk_at dksJ3_hashCode_1 21 rfl rfl)
theorem dJ3_hashCode_46 : decode cJ3_hashCode 46 = .ok (.iconst 1, 1) := dk_4 (dk_at dksJ3_hashCode_1 22 rfl rfl)
theorem dJ3_hashCode_47 : decode cJ3_hashCode 47 = .ok (.putfield 23, 3) := dk_181 0 23 (dk_at dksJ3_hashCode_2 0 rfl rfl)
theorem dJ3_hashCode_50 : decode cJ3_hashCode 50 = .ok (.goto 8, 3) := dk_167 0 8 (dk_at dksJ3_hashCode_2 3 rfl rfl)
theorem dJ3_hashCode_53 : decode cJ3_hashCode 53 = .ok (.aload_n 0, 1) := dk_42 (dk_at dksJ3_hashCode_2 6 rfl rfl)
theorem dJ3_hashCode_54 : decode cJ3_hashCode 54 = .ok (.iload_n 1, 1) := dk_27 (dk_at dksJ3_hashCode_2 7 rfl rfl)
theorem dJ3_hashCode_55 : decode cJ3_hashCode 55 = .ok (.putfield 19, 3) := dk_181 0 19 (dk_at dksJ3_hashCode_2 8 rfl rfl)
theorem dJ3_hashCode_58 : decode cJ3_hashCode 58 = .ok (.iload_n 1, 1) := dk_27 (dk_at dksJ3_hashCode_2 11 rfl rfl)
theorem dJ3_hashCode_59 : decode cJ3_hashCode 59 = .ok (.ireturn, 1) := dk_172 (dk_at dksJ3_hashCode_2 12 rfl rfl)
abbrev cJ3_isLatin1 : ByteArray := prog_22_method_154_code
def yJ3_isLatin1 : MethodName := ⟨RJ3, "isLatin1", "()Z"⟩
def dkwJ3_isLatin1_0 : List UInt8 := [178, 0, 38, 153, 0, 14, 42, 180, 0, 15, 154, 0, 7, 4, 167, 0, 4, 3, 172]
abbrev dktJ3_isLatin1_0 : List UInt8 := dkwJ3_isLatin1_0 ++ []
theorem dksJ3_isLatin1_0 : cJ3_isLatin1.data.toList.drop 0 = dktJ3_isLatin1_0 := by decide +kernel
theorem dJ3_isLatin1_0 : decode cJ3_isLatin1 0 = .ok (.getstatic 38, 3) := dk_178 0 38 (dk_at dksJ3_isLatin1_0 0 rfl rfl)
theorem dJ3_isLatin1_3 : decode cJ3_isLatin1 3 = .ok (.ifCond .eq 14, 3) := dk_153 0 14 (dk_at dksJ3_isLatin1_0 3 rfl rfl)
theorem dJ3_isLatin1_6 : decode cJ3_isLatin1 6 = .ok (.aload_n 0, 1) := dk_42 (dk_at dksJ3_isLatin1_0 6 rfl rfl)
theorem dJ3_isLatin1_7 : decode cJ3_isLatin1 7 = .ok (.getfield 15, 3) := dk_180 0 15 (dk_at dksJ3_isLatin1_0 7 rfl rfl)
theorem dJ3_isLatin1_10 : decode cJ3_isLatin1 10 = .ok (.ifCond .ne 7, 3) := dk_154 0 7 (dk_at dksJ3_isLatin1_0 10 rfl rfl)
theorem dJ3_isLatin1_13 : decode cJ3_isLatin1 13 = .ok (.iconst 1, 1) := dk_4 (dk_at dksJ3_isLatin1_0 13 rfl rfl)
theorem dJ3_isLatin1_14 : decode cJ3_isLatin1 14 = .ok (.goto 4, 3) := dk_167 0 4 (dk_at dksJ3_isLatin1_0 14 rfl rfl)
theorem dJ3_isLatin1_17 : decode cJ3_isLatin1 17 = .ok (.iconst 0, 1) := dk_3 (dk_at dksJ3_isLatin1_0 17 rfl rfl)
theorem dJ3_isLatin1_18 : decode cJ3_isLatin1 18 = .ok (.ireturn, 1) := dk_172 (dk_at dksJ3_isLatin1_0 18 rfl rfl)
abbrev cJ3_equals : ByteArray := prog_22_method_66_code
def yJ3_equals : MethodName := ⟨RJ3, "equals", "(Ljava/lang/Object;)Z"⟩
def dkwJ3_equals_2 : List UInt8 := [184, 2, 29, 153, 0, 7, 4, 167, 0, 4, 3, 172]
abbrev dktJ3_equals_2 : List UInt8 := dkwJ3_equals_2 ++ []
def dkwJ3_equals_1 : List UInt8 := [153, 0, 14, 42, 180, 0, 15, 44, 180, 0, 15, 160, 0, 21, 42, 180, 0, 9, 44, 180, 0, 9]
abbrev dktJ3_equals_1 : List UInt8 := dkwJ3_equals_1 ++ dktJ3_equals_2
def dkwJ3_equals_0 : List UInt8 := [42, 43, 166, 0, 5, 4, 172, 43, 193, 0, 10, 153, 0, 43, 43, 192, 0, 10, 77, 178, 0, 38]
abbrev dktJ3_equals_0 : List UInt8 := dkwJ3_equals_0 ++ dktJ3_equals_1
theorem dksJ3_equals_0 : cJ3_equals.data.toList.drop 0 = dktJ3_equals_0 := by decide +kernel
theorem dksJ3_equals_1 : cJ3_equals.data.toList.drop 22 = dktJ3_equals_1 := dk_seg dksJ3_equals_0 22 rfl rfl
theorem dksJ3_equals_2 : cJ3_equals.data.toList.drop 44 = dktJ3_equals_2 := dk_seg dksJ3_equals_1 22 rfl rfl
theorem dJ3_equals_0 : decode cJ3_equals 0 = .ok (.aload_n 0, 1) := dk_42 (dk_at dksJ3_equals_0 0 rfl rfl)
theorem dJ3_equals_1 : decode cJ3_equals 1 = .ok (.aload_n 1, 1) := dk_43 (dk_at dksJ3_equals_0 1 rfl rfl)
theorem dJ3_equals_2 : decode cJ3_equals 2 = .ok (.if_acmp .ne 5, 3) := dk_166 0 5 (dk_at dksJ3_equals_0 2 rfl rfl)
theorem dJ3_equals_5 : decode cJ3_equals 5 = .ok (.iconst 1, 1) := dk_4 (dk_at dksJ3_equals_0 5 rfl rfl)
theorem dJ3_equals_6 : decode cJ3_equals 6 = .ok (.ireturn, 1) := dk_172 (dk_at dksJ3_equals_0 6 rfl rfl)
theorem dJ3_equals_7 : decode cJ3_equals 7 = .ok (.aload_n 1, 1) := dk_43 (dk_at dksJ3_equals_0 7 rfl rfl)
theorem dJ3_equals_8 : decode cJ3_equals 8 = .ok (.instanceof 10, 3) := dk_193 0 10 (dk_at dksJ3_equals_0 8 rfl rfl)
theorem dJ3_equals_11 : decode cJ3_equals 11 = .ok (.ifCond .eq 43, 3) := dk_153 0 43 (dk_at dksJ3_equals_0 11 rfl rfl)
theorem dJ3_equals_14 : decode cJ3_equals 14 = .ok (.aload_n 1, 1) := dk_43 (dk_at dksJ3_equals_0 14 rfl rfl)
theorem dJ3_equals_15 : decode cJ3_equals 15 = .ok (.checkcast 10, 3) := dk_192 0 10 (dk_at dksJ3_equals_0 15 rfl rfl)
theorem dJ3_equals_18 : decode cJ3_equals 18 = .ok (.astore_n 2, 1) := dk_77 (dk_at dksJ3_equals_0 18 rfl rfl)
theorem dJ3_equals_19 : decode cJ3_equals 19 = .ok (.getstatic 38, 3) := dk_178 0 38 (dk_at dksJ3_equals_0 19 rfl rfl)
theorem dJ3_equals_22 : decode cJ3_equals 22 = .ok (.ifCond .eq 14, 3) := dk_153 0 14 (dk_at dksJ3_equals_1 0 rfl rfl)
theorem dJ3_equals_25 : decode cJ3_equals 25 = .ok (.aload_n 0, 1) := dk_42 (dk_at dksJ3_equals_1 3 rfl rfl)
theorem dJ3_equals_26 : decode cJ3_equals 26 = .ok (.getfield 15, 3) := dk_180 0 15 (dk_at dksJ3_equals_1 4 rfl rfl)
theorem dJ3_equals_29 : decode cJ3_equals 29 = .ok (.aload_n 2, 1) := dk_44 (dk_at dksJ3_equals_1 7 rfl rfl)
theorem dJ3_equals_30 : decode cJ3_equals 30 = .ok (.getfield 15, 3) := dk_180 0 15 (dk_at dksJ3_equals_1 8 rfl rfl)
theorem dJ3_equals_33 : decode cJ3_equals 33 = .ok (.if_icmp .ne 21, 3) := dk_160 0 21 (dk_at dksJ3_equals_1 11 rfl rfl)
theorem dJ3_equals_36 : decode cJ3_equals 36 = .ok (.aload_n 0, 1) := dk_42 (dk_at dksJ3_equals_1 14 rfl rfl)
theorem dJ3_equals_37 : decode cJ3_equals 37 = .ok (.getfield 9, 3) := dk_180 0 9 (dk_at dksJ3_equals_1 15 rfl rfl)
theorem dJ3_equals_40 : decode cJ3_equals 40 = .ok (.aload_n 2, 1) := dk_44 (dk_at dksJ3_equals_1 18 rfl rfl)
theorem dJ3_equals_41 : decode cJ3_equals 41 = .ok (.getfield 9, 3) := dk_180 0 9 (dk_at dksJ3_equals_1 19 rfl rfl)
theorem dJ3_equals_44 : decode cJ3_equals 44 = .ok (.invokestatic 541, 3) := dk_184 2 29 (dk_at dksJ3_equals_2 0 rfl rfl)
theorem dJ3_equals_47 : decode cJ3_equals 47 = .ok (.ifCond .eq 7, 3) := dk_153 0 7 (dk_at dksJ3_equals_2 3 rfl rfl)
theorem dJ3_equals_50 : decode cJ3_equals 50 = .ok (.iconst 1, 1) := dk_4 (dk_at dksJ3_equals_2 6 rfl rfl)
theorem dJ3_equals_51 : decode cJ3_equals 51 = .ok (.goto 4, 3) := dk_167 0 4 (dk_at dksJ3_equals_2 7 rfl rfl)
theorem dJ3_equals_54 : decode cJ3_equals 54 = .ok (.iconst 0, 1) := dk_3 (dk_at dksJ3_equals_2 10 rfl rfl)
theorem dJ3_equals_55 : decode cJ3_equals 55 = .ok (.ireturn, 1) := dk_172 (dk_at dksJ3_equals_2 11 rfl rfl)
abbrev cJ3_length : ByteArray := prog_22_method_54_code
def yJ3_length : MethodName := ⟨RJ3, "length", "()I"⟩
def dkwJ3_length_0 : List UInt8 := [42, 180, 0, 9, 190, 42, 182, 1, 79, 122, 172]
abbrev dktJ3_length_0 : List UInt8 := dkwJ3_length_0 ++ []
theorem dksJ3_length_0 : cJ3_length.data.toList.drop 0 = dktJ3_length_0 := by decide +kernel
theorem dJ3_length_0 : decode cJ3_length 0 = .ok (.aload_n 0, 1) := dk_42 (dk_at dksJ3_length_0 0 rfl rfl)
theorem dJ3_length_1 : decode cJ3_length 1 = .ok (.getfield 9, 3) := dk_180 0 9 (dk_at dksJ3_length_0 1 rfl rfl)
theorem dJ3_length_4 : decode cJ3_length 4 = .ok (.arraylength, 1) := dk_190 (dk_at dksJ3_length_0 4 rfl rfl)
theorem dJ3_length_5 : decode cJ3_length 5 = .ok (.aload_n 0, 1) := dk_42 (dk_at dksJ3_length_0 5 rfl rfl)
theorem dJ3_length_6 : decode cJ3_length 6 = .ok (.invokevirtual 335, 3) := dk_182 1 79 (dk_at dksJ3_length_0 6 rfl rfl)
theorem dJ3_length_9 : decode cJ3_length 9 = .ok (.ishr, 1) := dk_122 (dk_at dksJ3_length_0 9 rfl rfl)
theorem dJ3_length_10 : decode cJ3_length 10 = .ok (.ireturn, 1) := dk_172 (dk_at dksJ3_length_0 10 rfl rfl)
abbrev cJ3_coder : ByteArray := prog_22_method_152_code
def yJ3_coder : MethodName := ⟨RJ3, "coder", "()B"⟩
def dkwJ3_coder_0 : List UInt8 := [178, 0, 38, 153, 0, 10, 42, 180, 0, 15, 167, 0, 4, 4, 172]
abbrev dktJ3_coder_0 : List UInt8 := dkwJ3_coder_0 ++ []
theorem dksJ3_coder_0 : cJ3_coder.data.toList.drop 0 = dktJ3_coder_0 := by decide +kernel
theorem dJ3_coder_0 : decode cJ3_coder 0 = .ok (.getstatic 38, 3) := dk_178 0 38 (dk_at dksJ3_coder_0 0 rfl rfl)
theorem dJ3_coder_3 : decode cJ3_coder 3 = .ok (.ifCond .eq 10, 3) := dk_153 0 10 (dk_at dksJ3_coder_0 3 rfl rfl)
theorem dJ3_coder_6 : decode cJ3_coder 6 = .ok (.aload_n 0, 1) := dk_42 (dk_at dksJ3_coder_0 6 rfl rfl)
theorem dJ3_coder_7 : decode cJ3_coder 7 = .ok (.getfield 15, 3) := dk_180 0 15 (dk_at dksJ3_coder_0 7 rfl rfl)
theorem dJ3_coder_10 : decode cJ3_coder 10 = .ok (.goto 4, 3) := dk_167 0 4 (dk_at dksJ3_coder_0 10 rfl rfl)
theorem dJ3_coder_13 : decode cJ3_coder 13 = .ok (.iconst 1, 1) := dk_4 (dk_at dksJ3_coder_0 13 rfl rfl)
theorem dJ3_coder_14 : decode cJ3_coder 14 = .ok (.ireturn, 1) := dk_172 (dk_at dksJ3_coder_0 14 rfl rfl)
abbrev cJ3_charAt : ByteArray := prog_22_method_56_code
def yJ3_charAt : MethodName := ⟨RJ3, "charAt", "(I)C"⟩
def dkwJ3_charAt_1 : List UInt8 := [172]
abbrev dktJ3_charAt_1 : List UInt8 := dkwJ3_charAt_1 ++ []
def dkwJ3_charAt_0 : List UInt8 := [42, 182, 1, 236, 153, 0, 12, 42, 180, 0, 9, 27, 184, 1, 239, 172, 42, 180, 0, 9, 27, 184, 1, 242]
abbrev dktJ3_charAt_0 : List UInt8 := dkwJ3_charAt_0 ++ dktJ3_charAt_1
theorem dksJ3_charAt_0 : cJ3_charAt.data.toList.drop 0 = dktJ3_charAt_0 := by decide +kernel
theorem dksJ3_charAt_1 : cJ3_charAt.data.toList.drop 24 = dktJ3_charAt_1 := dk_seg dksJ3_charAt_0 24 rfl rfl
theorem dJ3_charAt_0 : decode cJ3_charAt 0 = .ok (.aload_n 0, 1) := dk_42 (dk_at dksJ3_charAt_0 0 rfl rfl)
theorem dJ3_charAt_1 : decode cJ3_charAt 1 = .ok (.invokevirtual 492, 3) := dk_182 1 236 (dk_at dksJ3_charAt_0 1 rfl rfl)
theorem dJ3_charAt_4 : decode cJ3_charAt 4 = .ok (.ifCond .eq 12, 3) := dk_153 0 12 (dk_at dksJ3_charAt_0 4 rfl rfl)
theorem dJ3_charAt_7 : decode cJ3_charAt 7 = .ok (.aload_n 0, 1) := dk_42 (dk_at dksJ3_charAt_0 7 rfl rfl)
theorem dJ3_charAt_8 : decode cJ3_charAt 8 = .ok (.getfield 9, 3) := dk_180 0 9 (dk_at dksJ3_charAt_0 8 rfl rfl)
theorem dJ3_charAt_11 : decode cJ3_charAt 11 = .ok (.iload_n 1, 1) := dk_27 (dk_at dksJ3_charAt_0 11 rfl rfl)
theorem dJ3_charAt_12 : decode cJ3_charAt 12 = .ok (.invokestatic 495, 3) := dk_184 1 239 (dk_at dksJ3_charAt_0 12 rfl rfl)
theorem dJ3_charAt_15 : decode cJ3_charAt 15 = .ok (.ireturn, 1) := dk_172 (dk_at dksJ3_charAt_0 15 rfl rfl)
theorem dJ3_charAt_16 : decode cJ3_charAt 16 = .ok (.aload_n 0, 1) := dk_42 (dk_at dksJ3_charAt_0 16 rfl rfl)
theorem dJ3_charAt_17 : decode cJ3_charAt 17 = .ok (.getfield 9, 3) := dk_180 0 9 (dk_at dksJ3_charAt_0 17 rfl rfl)
theorem dJ3_charAt_20 : decode cJ3_charAt 20 = .ok (.iload_n 1, 1) := dk_27 (dk_at dksJ3_charAt_0 20 rfl rfl)
theorem dJ3_charAt_21 : decode cJ3_charAt 21 = .ok (.invokestatic 498, 3) := dk_184 1 242 (dk_at dksJ3_charAt_0 21 rfl rfl)
theorem dJ3_charAt_24 : decode cJ3_charAt 24 = .ok (.ireturn, 1) := dk_172 (dk_at dksJ3_charAt_1 0 rfl rfl)
abbrev cJ3_checkIndex : ByteArray := prog_22_method_155_code
def yJ3_checkIndex : MethodName := ⟨RJ3, "checkIndex", "(II)V"⟩
def dkwJ3_checkIndex_0 : List UInt8 := [26, 27, 178, 4, 29, 184, 4, 35, 87, 177]
abbrev dktJ3_checkIndex_0 : List UInt8 := dkwJ3_checkIndex_0 ++ []
theorem dksJ3_checkIndex_0 : cJ3_checkIndex.data.toList.drop 0 = dktJ3_checkIndex_0 := by decide +kernel
theorem dJ3_checkIndex_0 : decode cJ3_checkIndex 0 = .ok (.iload_n 0, 1) := dk_26 (dk_at dksJ3_checkIndex_0 0 rfl rfl)
theorem dJ3_checkIndex_1 : decode cJ3_checkIndex 1 = .ok (.iload_n 1, 1) := dk_27 (dk_at dksJ3_checkIndex_0 1 rfl rfl)
theorem dJ3_checkIndex_2 : decode cJ3_checkIndex 2 = .ok (.getstatic 1053, 3) := dk_178 4 29 (dk_at dksJ3_checkIndex_0 2 rfl rfl)
theorem dJ3_checkIndex_5 : decode cJ3_checkIndex 5 = .ok (.invokestatic 1059, 3) := dk_184 4 35 (dk_at dksJ3_checkIndex_0 5 rfl rfl)
theorem dJ3_checkIndex_8 : decode cJ3_checkIndex 8 = .ok (.pop, 1) := dk_87 (dk_at dksJ3_checkIndex_0 8 rfl rfl)
theorem dJ3_checkIndex_9 : decode cJ3_checkIndex 9 = .ok (.return_, 1) := dk_177 (dk_at dksJ3_checkIndex_0 9 rfl rfl)
theorem q95 : (Jvm.Cond.initialized "java/lang/String") ∈ lw_all := lw_g (lw_at lw_m1 13 rfl) rfl
theorem q580 : (Jvm.Cond.instantiable "java/lang/String" (4 : Nat)) ∈ lw_all := lw_g (lw_at lw_m3 18 rfl) rfl
theorem q582 : (Jvm.Cond.instanceMethod ({ cls := "java/lang/String", name := "<init>", desc := "([CII)V" } : Jvm.MethodName)) ∈ lw_all := lw_g (lw_at lw_m3 20 rfl) rfl
theorem q583 : (Jvm.Cond.code ({ cls := "java/lang/String", name := "<init>", desc := "([CII)V" } : Jvm.MethodName) prog_22_method_4_code (4 : Nat) (Option.none : Option Jvm.ClassFile.FieldType)) ∈ lw_all := lw_g (lw_at lw_m3 21 rfl) rfl
theorem q584 : (Jvm.Cond.methodLink "java/lang/String" (30 : Nat) ({ cls := "java/lang/String", name := "rangeCheck", desc := "([CII)Ljava/lang/Void;" } : Jvm.MethodName)) ∈ lw_all := lw_g (lw_at lw_m3 22 rfl) rfl
theorem q585 : (Jvm.Cond.static ({ cls := "java/lang/String", name := "rangeCheck", desc := "([CII)Ljava/lang/Void;" } : Jvm.MethodName)) ∈ lw_all := lw_g (lw_at lw_m3 23 rfl) rfl
theorem q586 : (Jvm.Cond.code ({ cls := "java/lang/String", name := "rangeCheck", desc := "([CII)Ljava/lang/Void;" } : Jvm.MethodName) prog_22_method_5_code (3 : Nat) (Option.some (Jvm.ClassFile.FieldType.object "java/lang/Void"))) ∈ lw_all := lw_g (lw_at lw_m3 24 rfl) rfl
theorem q587 : (Jvm.Cond.methodLink "java/lang/String" (34 : Nat) ({ cls := "java/lang/String", name := "checkBoundsOffCount", desc := "(III)I" } : Jvm.MethodName)) ∈ lw_all := lw_g (lw_at lw_m3 25 rfl) rfl
theorem q588 : (Jvm.Cond.static ({ cls := "java/lang/String", name := "checkBoundsOffCount", desc := "(III)I" } : Jvm.MethodName)) ∈ lw_all := lw_g (lw_at lw_m3 26 rfl) rfl
theorem q589 : (Jvm.Cond.code ({ cls := "java/lang/String", name := "checkBoundsOffCount", desc := "(III)I" } : Jvm.MethodName) prog_22_method_157_code (3 : Nat) (Option.some Jvm.ClassFile.FieldType.int)) ∈ lw_all := lw_g (lw_at lw_m3 27 rfl) rfl
theorem q590 : (Jvm.Cond.fieldLink "java/lang/String" (1053 : Nat) "jdk/internal/util/Preconditions" "SIOOBE_FORMATTER" "Ljava/util/function/BiFunction;") ∈ lw_all := lw_g (lw_at lw_m3 28 rfl) rfl
theorem q592 : (Jvm.Cond.methodLink "java/lang/String" (1065 : Nat) ({ cls := "jdk/internal/util/Preconditions", name := "checkFromIndexSize", desc := "(IIILjava/util/function/BiFunction;)I" } : Jvm.MethodName)) ∈ lw_all := lw_g (lw_at lw_m3 30 rfl) rfl
theorem q595 : (Jvm.Cond.methodLink "java/lang/String" (27 : Nat) ({ cls := "java/lang/String", name := "<init>", desc := "([CIILjava/lang/Void;)V" } : Jvm.MethodName)) ∈ lw_all := lw_g (lw_at lw_m3 33 rfl) rfl
theorem q596 : (Jvm.Cond.instanceMethod ({ cls := "java/lang/String", name := "<init>", desc := "([CIILjava/lang/Void;)V" } : Jvm.MethodName)) ∈ lw_all := lw_g (lw_at lw_m3 34 rfl) rfl
theorem q597 : (Jvm.Cond.code ({ cls := "java/lang/String", name := "<init>", desc := "([CIILjava/lang/Void;)V" } : Jvm.MethodName) prog_22_method_149_code (6 : Nat) (Option.none : Option Jvm.ClassFile.FieldType)) ∈ lw_all := lw_g (lw_at lw_m3 35 rfl) rfl
theorem q598 : (Jvm.Cond.methodLink "java/lang/String" (1 : Nat) ({ cls := "java/lang/Object", name := "<init>", desc := "()V" } : Jvm.MethodName)) ∈ lw_all := lw_g (lw_at lw_m3 36 rfl) rfl
theorem q599 : (Jvm.Cond.stringRef "java/lang/String" (7 : Nat) "") ∈ lw_tbl := lw_at lw_m3 37 rfl
theorem q600 : (Jvm.Cond.fieldLink "java/lang/String" (38 : Nat) "java/lang/String" "COMPACT_STRINGS" "Z") ∈ lw_all := lw_g (lw_at lw_m3 38 rfl) rfl
theorem q601 : (Jvm.Cond.laysStatic "java/lang/String" "COMPACT_STRINGS" "Z") ∈ lw_tbl := lw_at lw_m3 39 rfl
theorem q602 : (Jvm.Cond.methodLink "java/lang/String" (177 : Nat) ({ cls := "java/lang/StringUTF16", name := "compress", desc := "([CII)[B" } : Jvm.MethodName)) ∈ lw_all := lw_g (lw_at lw_m3 40 rfl) rfl
theorem q640 : (Jvm.Cond.methodLink "java/lang/String" (47 : Nat) ({ cls := "java/lang/StringUTF16", name := "coderFromArrayLen", desc := "([BI)B" } : Jvm.MethodName)) ∈ lw_all := lw_g (lw_at lw_m3 78 rfl) rfl
theorem q643 : (Jvm.Cond.methodLink "java/lang/String" (180 : Nat) ({ cls := "java/lang/StringUTF16", name := "toBytes", desc := "([CII)[B" } : Jvm.MethodName)) ∈ lw_all := lw_g (lw_at lw_m3 81 rfl) rfl
theorem q644 : (Jvm.Cond.fieldLink "java/lang/String" (9 : Nat) "java/lang/String" "value" "[B") ∈ lw_all := lw_g (lw_at lw_m3 82 rfl) rfl
theorem q645 : (Jvm.Cond.fieldLink "java/lang/String" (15 : Nat) "java/lang/String" "coder" "B") ∈ lw_all := lw_g (lw_at lw_m3 83 rfl) rfl
theorem q646 : (Jvm.Cond.fieldLink "java/lang/String" (19 : Nat) "java/lang/String" "hash" "I") ∈ lw_all := lw_g (lw_at lw_m3 84 rfl) rfl
theorem q647 : (Jvm.Cond.fieldLink "java/lang/String" (23 : Nat) "java/lang/String" "hashIsZero" "Z") ∈ lw_all := lw_g (lw_at lw_m3 85 rfl) rfl
theorem q648 : (Jvm.Cond.laysFinal "java/lang/String" "java/lang/String" "value" "[B") ∈ lw_all := lw_g (lw_at lw_m3 86 rfl) rfl
theorem q649 : (Jvm.Cond.soleField "java/lang/String" "value") ∈ lw_all := lw_g (lw_at lw_m3 87 rfl) rfl
theorem q650 : (Jvm.Cond.laysFinal "java/lang/String" "java/lang/String" "coder" "B") ∈ lw_all := lw_g (lw_at lw_m3 88 rfl) rfl
theorem q651 : (Jvm.Cond.soleField "java/lang/String" "coder") ∈ lw_all := lw_g (lw_at lw_m3 89 rfl) rfl
theorem q652 : (Jvm.Cond.lays "java/lang/String" "java/lang/String" "hash" "I") ∈ lw_all := lw_g (lw_at lw_m3 90 rfl) rfl
theorem q653 : (Jvm.Cond.soleField "java/lang/String" "hash") ∈ lw_all := lw_g (lw_at lw_m3 91 rfl) rfl
theorem q654 : (Jvm.Cond.lays "java/lang/String" "java/lang/String" "hashIsZero" "Z") ∈ lw_all := lw_g (lw_at lw_m3 92 rfl) rfl
theorem q655 : (Jvm.Cond.soleField "java/lang/String" "hashIsZero") ∈ lw_all := lw_g (lw_at lw_m3 93 rfl) rfl
theorem q656 : (Jvm.Cond.superclass "java/lang/String" "java/lang/Object") ∈ lw_all := lw_g (lw_at lw_m3 94 rfl) rfl
theorem q674 : (Jvm.Cond.instanceMethod ({ cls := "java/lang/String", name := "hashCode", desc := "()I" } : Jvm.MethodName)) ∈ lw_all := lw_g (lw_at lw_m3 112 rfl) rfl
theorem q675 : (Jvm.Cond.selects "java/lang/String" ({ cls := "java/lang/String", name := "hashCode", desc := "()I" } : Jvm.MethodName) ({ cls := "java/lang/String", name := "hashCode", desc := "()I" } : Jvm.MethodName)) ∈ lw_all := lw_g (lw_at lw_m3 113 rfl) rfl
theorem q676 : (Jvm.Cond.code ({ cls := "java/lang/String", name := "hashCode", desc := "()I" } : Jvm.MethodName) prog_22_method_78_code (2 : Nat) (Option.some Jvm.ClassFile.FieldType.int)) ∈ lw_all := lw_g (lw_at lw_m3 114 rfl) rfl
theorem q677 : (Jvm.Cond.methodLink "java/lang/String" (492 : Nat) ({ cls := "java/lang/String", name := "isLatin1", desc := "()Z" } : Jvm.MethodName)) ∈ lw_all := lw_g (lw_at lw_m3 115 rfl) rfl
theorem q678 : (Jvm.Cond.instanceMethod ({ cls := "java/lang/String", name := "isLatin1", desc := "()Z" } : Jvm.MethodName)) ∈ lw_all := lw_g (lw_at lw_m3 116 rfl) rfl
theorem q679 : (Jvm.Cond.selects "java/lang/String" ({ cls := "java/lang/String", name := "isLatin1", desc := "()Z" } : Jvm.MethodName) ({ cls := "java/lang/String", name := "isLatin1", desc := "()Z" } : Jvm.MethodName)) ∈ lw_all := lw_g (lw_at lw_m3 117 rfl) rfl
theorem q680 : (Jvm.Cond.code ({ cls := "java/lang/String", name := "isLatin1", desc := "()Z" } : Jvm.MethodName) prog_22_method_154_code (1 : Nat) (Option.some Jvm.ClassFile.FieldType.boolean)) ∈ lw_all := lw_g (lw_at lw_m3 118 rfl) rfl
theorem q681 : (Jvm.Cond.methodLink "java/lang/String" (628 : Nat) ({ cls := "java/lang/StringLatin1", name := "hashCode", desc := "([B)I" } : Jvm.MethodName)) ∈ lw_all := lw_g (lw_at lw_m3 119 rfl) rfl
theorem q722 : (Jvm.Cond.methodLink "java/lang/String" (632 : Nat) ({ cls := "java/lang/StringUTF16", name := "hashCode", desc := "([B)I" } : Jvm.MethodName)) ∈ lw_all := lw_g (lw_at lw_m3 160 rfl) rfl
theorem q728 : (Jvm.Cond.instanceMethod ({ cls := "java/lang/String", name := "equals", desc := "(Ljava/lang/Object;)Z" } : Jvm.MethodName)) ∈ lw_all := lw_g (lw_at lw_m3 166 rfl) rfl
theorem q729 : (Jvm.Cond.selects "java/lang/String" ({ cls := "java/lang/String", name := "equals", desc := "(Ljava/lang/Object;)Z" } : Jvm.MethodName) ({ cls := "java/lang/String", name := "equals", desc := "(Ljava/lang/Object;)Z" } : Jvm.MethodName)) ∈ lw_all := lw_g (lw_at lw_m3 167 rfl) rfl
theorem q730 : (Jvm.Cond.code ({ cls := "java/lang/String", name := "equals", desc := "(Ljava/lang/Object;)Z" } : Jvm.MethodName) prog_22_method_66_code (3 : Nat) (Option.some Jvm.ClassFile.FieldType.boolean)) ∈ lw_all := lw_g (lw_at lw_m3 168 rfl) rfl
theorem q731 : (Jvm.Cond.classLink "java/lang/String" (10 : Nat) "java/lang/String") ∈ lw_all := lw_g (lw_at lw_m3 169 rfl) rfl
theorem q732 : (Jvm.Cond.methodLink "java/lang/String" (541 : Nat) ({ cls := "java/lang/StringLatin1", name := "equals", desc := "([B[B)Z" } : Jvm.MethodName)) ∈ lw_all := lw_g (lw_at lw_m3 170 rfl) rfl
theorem q1374 : (Jvm.Cond.instanceMethod ({ cls := "java/lang/String", name := "length", desc := "()I" } : Jvm.MethodName)) ∈ lw_all := lw_g (lw_at lw_m6 92 rfl) rfl
theorem q1375 : (Jvm.Cond.selects "java/lang/String" ({ cls := "java/lang/String", name := "length", desc := "()I" } : Jvm.MethodName) ({ cls := "java/lang/String", name := "length", desc := "()I" } : Jvm.MethodName)) ∈ lw_all := lw_g (lw_at lw_m6 93 rfl) rfl
theorem q1376 : (Jvm.Cond.code ({ cls := "java/lang/String", name := "length", desc := "()I" } : Jvm.MethodName) prog_22_method_54_code (1 : Nat) (Option.some Jvm.ClassFile.FieldType.int)) ∈ lw_all := lw_g (lw_at lw_m6 94 rfl) rfl
theorem q1377 : (Jvm.Cond.methodLink "java/lang/String" (335 : Nat) ({ cls := "java/lang/String", name := "coder", desc := "()B" } : Jvm.MethodName)) ∈ lw_all := lw_g (lw_at lw_m6 95 rfl) rfl
theorem q1378 : (Jvm.Cond.instanceMethod ({ cls := "java/lang/String", name := "coder", desc := "()B" } : Jvm.MethodName)) ∈ lw_all := lw_g (lw_at lw_m6 96 rfl) rfl
theorem q1379 : (Jvm.Cond.selects "java/lang/String" ({ cls := "java/lang/String", name := "coder", desc := "()B" } : Jvm.MethodName) ({ cls := "java/lang/String", name := "coder", desc := "()B" } : Jvm.MethodName)) ∈ lw_all := lw_g (lw_at lw_m6 97 rfl) rfl
theorem q1380 : (Jvm.Cond.code ({ cls := "java/lang/String", name := "coder", desc := "()B" } : Jvm.MethodName) prog_22_method_152_code (1 : Nat) (Option.some Jvm.ClassFile.FieldType.byte)) ∈ lw_all := lw_g (lw_at lw_m6 98 rfl) rfl
theorem q1382 : (Jvm.Cond.instanceMethod ({ cls := "java/lang/String", name := "charAt", desc := "(I)C" } : Jvm.MethodName)) ∈ lw_all := lw_g (lw_at lw_m6 100 rfl) rfl
theorem q1383 : (Jvm.Cond.selects "java/lang/String" ({ cls := "java/lang/String", name := "charAt", desc := "(I)C" } : Jvm.MethodName) ({ cls := "java/lang/String", name := "charAt", desc := "(I)C" } : Jvm.MethodName)) ∈ lw_all := lw_g (lw_at lw_m6 101 rfl) rfl
theorem q1384 : (Jvm.Cond.code ({ cls := "java/lang/String", name := "charAt", desc := "(I)C" } : Jvm.MethodName) prog_22_method_56_code (2 : Nat) (Option.some Jvm.ClassFile.FieldType.char)) ∈ lw_all := lw_g (lw_at lw_m6 102 rfl) rfl
theorem q1385 : (Jvm.Cond.methodLink "java/lang/String" (495 : Nat) ({ cls := "java/lang/StringLatin1", name := "charAt", desc := "([BI)C" } : Jvm.MethodName)) ∈ lw_all := lw_g (lw_at lw_m6 103 rfl) rfl
theorem q1389 : (Jvm.Cond.static ({ cls := "java/lang/String", name := "checkIndex", desc := "(II)V" } : Jvm.MethodName)) ∈ lw_all := lw_g (lw_at lw_m6 107 rfl) rfl
theorem q1390 : (Jvm.Cond.code ({ cls := "java/lang/String", name := "checkIndex", desc := "(II)V" } : Jvm.MethodName) prog_22_method_155_code (2 : Nat) (Option.none : Option Jvm.ClassFile.FieldType)) ∈ lw_all := lw_g (lw_at lw_m6 108 rfl) rfl
theorem q1391 : (Jvm.Cond.methodLink "java/lang/String" (1059 : Nat) ({ cls := "jdk/internal/util/Preconditions", name := "checkIndex", desc := "(IILjava/util/function/BiFunction;)I" } : Jvm.MethodName)) ∈ lw_all := lw_g (lw_at lw_m6 109 rfl) rfl
theorem q1394 : (Jvm.Cond.methodLink "java/lang/String" (498 : Nat) ({ cls := "java/lang/StringUTF16", name := "charAt", desc := "([BI)C" } : Jvm.MethodName)) ∈ lw_all := lw_g (lw_at lw_m6 112 rfl) rfl
theorem q1704 : (Jvm.Cond.castable "java/lang/String" "java/lang/Object") ∈ lw_tbl := lw_at lw_m7 182 rfl
theorem in_J3 : ∀ w ∈ wsJ30, w ∈ lw_all := lw_in wsJ30 [648, 650, 652, 654] (by decide +kernel) (by decide +kernel)

/-! jdk/internal/util/Preconditions -/
set_option maxRecDepth 100000
def RJ4 : String := "jdk/internal/util/Preconditions"
abbrev cJ4_checkFromIndexSize : ByteArray := prog_33_method_13_code
def yJ4_checkFromIndexSize : MethodName := ⟨RJ4, "checkFromIndexSize", "(IIILjava/util/function/BiFunction;)I"⟩
def dkwJ4_checkFromIndexSize_1 : List UInt8 := [172]
abbrev dktJ4_checkFromIndexSize_1 : List UInt8 := dkwJ4_checkFromIndexSize_1 ++ []
def dkwJ4_checkFromIndexSize_0 : List UInt8 := [28, 26, 128, 27, 128, 155, 0, 10, 27, 28, 26, 100, 164, 0, 11, 45, 26, 27, 28, 184, 0, 103, 191, 26]
abbrev dktJ4_checkFromIndexSize_0 : List UInt8 := dkwJ4_checkFromIndexSize_0 ++ dktJ4_checkFromIndexSize_1
theorem dksJ4_checkFromIndexSize_0 : cJ4_checkFromIndexSize.data.toList.drop 0 = dktJ4_checkFromIndexSize_0 := by decide +kernel
theorem dksJ4_checkFromIndexSize_1 : cJ4_checkFromIndexSize.data.toList.drop 24 = dktJ4_checkFromIndexSize_1 := dk_seg dksJ4_checkFromIndexSize_0 24 rfl rfl
theorem dJ4_checkFromIndexSize_0 : decode cJ4_checkFromIndexSize 0 = .ok (.iload_n 2, 1) := dk_28 (dk_at dksJ4_checkFromIndexSize_0 0 rfl rfl)
theorem dJ4_checkFromIndexSize_1 : decode cJ4_checkFromIndexSize 1 = .ok (.iload_n 0, 1) := dk_26 (dk_at dksJ4_checkFromIndexSize_0 1 rfl rfl)
theorem dJ4_checkFromIndexSize_2 : decode cJ4_checkFromIndexSize 2 = .ok (.ior, 1) := dk_128 (dk_at dksJ4_checkFromIndexSize_0 2 rfl rfl)
theorem dJ4_checkFromIndexSize_3 : decode cJ4_checkFromIndexSize 3 = .ok (.iload_n 1, 1) := dk_27 (dk_at dksJ4_checkFromIndexSize_0 3 rfl rfl)
theorem dJ4_checkFromIndexSize_4 : decode cJ4_checkFromIndexSize 4 = .ok (.ior, 1) := dk_128 (dk_at dksJ4_checkFromIndexSize_0 4 rfl rfl)
theorem dJ4_checkFromIndexSize_5 : decode cJ4_checkFromIndexSize 5 = .ok (.ifCond .lt 10, 3) := dk_155 0 10 (dk_at dksJ4_checkFromIndexSize_0 5 rfl rfl)
theorem dJ4_checkFromIndexSize_8 : decode cJ4_checkFromIndexSize 8 = .ok (.iload_n 1, 1) := dk_27 (dk_at dksJ4_checkFromIndexSize_0 8 rfl rfl)
theorem dJ4_checkFromIndexSize_9 : decode cJ4_checkFromIndexSize 9 = .ok (.iload_n 2, 1) := dk_28 (dk_at dksJ4_checkFromIndexSize_0 9 rfl rfl)
theorem dJ4_checkFromIndexSize_10 : decode cJ4_checkFromIndexSize 10 = .ok (.iload_n 0, 1) := dk_26 (dk_at dksJ4_checkFromIndexSize_0 10 rfl rfl)
theorem dJ4_checkFromIndexSize_11 : decode cJ4_checkFromIndexSize 11 = .ok (.isub, 1) := dk_100 (dk_at dksJ4_checkFromIndexSize_0 11 rfl rfl)
theorem dJ4_checkFromIndexSize_12 : decode cJ4_checkFromIndexSize 12 = .ok (.if_icmp .le 11, 3) := dk_164 0 11 (dk_at dksJ4_checkFromIndexSize_0 12 rfl rfl)
theorem dJ4_checkFromIndexSize_15 : decode cJ4_checkFromIndexSize 15 = .ok (.aload_n 3, 1) := dk_45 (dk_at dksJ4_checkFromIndexSize_0 15 rfl rfl)
theorem dJ4_checkFromIndexSize_16 : decode cJ4_checkFromIndexSize 16 = .ok (.iload_n 0, 1) := dk_26 (dk_at dksJ4_checkFromIndexSize_0 16 rfl rfl)
theorem dJ4_checkFromIndexSize_17 : decode cJ4_checkFromIndexSize 17 = .ok (.iload_n 1, 1) := dk_27 (dk_at dksJ4_checkFromIndexSize_0 17 rfl rfl)
theorem dJ4_checkFromIndexSize_18 : decode cJ4_checkFromIndexSize 18 = .ok (.iload_n 2, 1) := dk_28 (dk_at dksJ4_checkFromIndexSize_0 18 rfl rfl)
theorem dJ4_checkFromIndexSize_19 : decode cJ4_checkFromIndexSize 19 = .ok (.invokestatic 103, 3) := dk_184 0 103 (dk_at dksJ4_checkFromIndexSize_0 19 rfl rfl)
theorem dJ4_checkFromIndexSize_22 : decode cJ4_checkFromIndexSize 22 = .ok (.athrow, 1) := dk_191 (dk_at dksJ4_checkFromIndexSize_0 22 rfl rfl)
theorem dJ4_checkFromIndexSize_23 : decode cJ4_checkFromIndexSize 23 = .ok (.iload_n 0, 1) := dk_26 (dk_at dksJ4_checkFromIndexSize_0 23 rfl rfl)
theorem dJ4_checkFromIndexSize_24 : decode cJ4_checkFromIndexSize 24 = .ok (.ireturn, 1) := dk_172 (dk_at dksJ4_checkFromIndexSize_1 0 rfl rfl)
abbrev cJ4_checkIndex : ByteArray := prog_33_method_11_code
def yJ4_checkIndex : MethodName := ⟨RJ4, "checkIndex", "(IILjava/util/function/BiFunction;)I"⟩
def dkwJ4_checkIndex_0 : List UInt8 := [26, 155, 0, 8, 26, 27, 161, 0, 10, 44, 26, 27, 184, 0, 95, 191, 26, 172]
abbrev dktJ4_checkIndex_0 : List UInt8 := dkwJ4_checkIndex_0 ++ []
theorem dksJ4_checkIndex_0 : cJ4_checkIndex.data.toList.drop 0 = dktJ4_checkIndex_0 := by decide +kernel
theorem dJ4_checkIndex_0 : decode cJ4_checkIndex 0 = .ok (.iload_n 0, 1) := dk_26 (dk_at dksJ4_checkIndex_0 0 rfl rfl)
theorem dJ4_checkIndex_1 : decode cJ4_checkIndex 1 = .ok (.ifCond .lt 8, 3) := dk_155 0 8 (dk_at dksJ4_checkIndex_0 1 rfl rfl)
theorem dJ4_checkIndex_4 : decode cJ4_checkIndex 4 = .ok (.iload_n 0, 1) := dk_26 (dk_at dksJ4_checkIndex_0 4 rfl rfl)
theorem dJ4_checkIndex_5 : decode cJ4_checkIndex 5 = .ok (.iload_n 1, 1) := dk_27 (dk_at dksJ4_checkIndex_0 5 rfl rfl)
theorem dJ4_checkIndex_6 : decode cJ4_checkIndex 6 = .ok (.if_icmp .lt 10, 3) := dk_161 0 10 (dk_at dksJ4_checkIndex_0 6 rfl rfl)
theorem dJ4_checkIndex_9 : decode cJ4_checkIndex 9 = .ok (.aload_n 2, 1) := dk_44 (dk_at dksJ4_checkIndex_0 9 rfl rfl)
theorem dJ4_checkIndex_10 : decode cJ4_checkIndex 10 = .ok (.iload_n 0, 1) := dk_26 (dk_at dksJ4_checkIndex_0 10 rfl rfl)
theorem dJ4_checkIndex_11 : decode cJ4_checkIndex 11 = .ok (.iload_n 1, 1) := dk_27 (dk_at dksJ4_checkIndex_0 11 rfl rfl)
theorem dJ4_checkIndex_12 : decode cJ4_checkIndex 12 = .ok (.invokestatic 95, 3) := dk_184 0 95 (dk_at dksJ4_checkIndex_0 12 rfl rfl)
theorem dJ4_checkIndex_15 : decode cJ4_checkIndex 15 = .ok (.athrow, 1) := dk_191 (dk_at dksJ4_checkIndex_0 15 rfl rfl)
theorem dJ4_checkIndex_16 : decode cJ4_checkIndex 16 = .ok (.iload_n 0, 1) := dk_26 (dk_at dksJ4_checkIndex_0 16 rfl rfl)
theorem dJ4_checkIndex_17 : decode cJ4_checkIndex 17 = .ok (.ireturn, 1) := dk_172 (dk_at dksJ4_checkIndex_0 17 rfl rfl)
theorem q96 : (Jvm.Cond.initialized "jdk/internal/util/Preconditions") ∈ lw_all := lw_g (lw_at lw_m1 14 rfl) rfl
theorem q591 : (Jvm.Cond.laysStatic "jdk/internal/util/Preconditions" "SIOOBE_FORMATTER" "Ljava/util/function/BiFunction;") ∈ lw_tbl := lw_at lw_m3 29 rfl
theorem q593 : (Jvm.Cond.static ({ cls := "jdk/internal/util/Preconditions", name := "checkFromIndexSize", desc := "(IIILjava/util/function/BiFunction;)I" } : Jvm.MethodName)) ∈ lw_all := lw_g (lw_at lw_m3 31 rfl) rfl
theorem q594 : (Jvm.Cond.code ({ cls := "jdk/internal/util/Preconditions", name := "checkFromIndexSize", desc := "(IIILjava/util/function/BiFunction;)I" } : Jvm.MethodName) prog_33_method_13_code (4 : Nat) (Option.some Jvm.ClassFile.FieldType.int)) ∈ lw_all := lw_g (lw_at lw_m3 32 rfl) rfl
theorem q1392 : (Jvm.Cond.static ({ cls := "jdk/internal/util/Preconditions", name := "checkIndex", desc := "(IILjava/util/function/BiFunction;)I" } : Jvm.MethodName)) ∈ lw_all := lw_g (lw_at lw_m6 110 rfl) rfl
theorem q1393 : (Jvm.Cond.code ({ cls := "jdk/internal/util/Preconditions", name := "checkIndex", desc := "(IILjava/util/function/BiFunction;)I" } : Jvm.MethodName) prog_33_method_11_code (3 : Nat) (Option.some Jvm.ClassFile.FieldType.int)) ∈ lw_all := lw_g (lw_at lw_m6 111 rfl) rfl

/-! java/lang/StringUTF16 -/
set_option maxRecDepth 100000
def RJ5 : String := "java/lang/StringUTF16"
abbrev cJ5_compress : ByteArray := prog_24_method_16_code
def yJ5_compress : MethodName := ⟨RJ5, "compress", "([CII)[B"⟩
def dkwJ5_compress_2 : List UInt8 := [184, 0, 123, 28, 159, 0, 6, 25, 5, 176, 45, 176]
abbrev dktJ5_compress_2 : List UInt8 := dkwJ5_compress_2 ++ []
def dkwJ5_compress_1 : List UInt8 := [184, 0, 119, 58, 5, 25, 5, 21, 4, 184, 0, 71, 17, 0, 255, 163, 0, 16, 25, 5, 3, 45, 3, 28]
abbrev dktJ5_compress_1 : List UInt8 := dkwJ5_compress_1 ++ dktJ5_compress_2
def dkwJ5_compress_0 : List UInt8 := [28, 188, 8, 78, 42, 27, 45, 3, 28, 184, 0, 115, 54, 4, 21, 4, 28, 159, 0, 40, 42, 27, 28]
abbrev dktJ5_compress_0 : List UInt8 := dkwJ5_compress_0 ++ dktJ5_compress_1
theorem dksJ5_compress_0 : cJ5_compress.data.toList.drop 0 = dktJ5_compress_0 := by decide +kernel
theorem dksJ5_compress_1 : cJ5_compress.data.toList.drop 23 = dktJ5_compress_1 := dk_seg dksJ5_compress_0 23 rfl rfl
theorem dksJ5_compress_2 : cJ5_compress.data.toList.drop 47 = dktJ5_compress_2 := dk_seg dksJ5_compress_1 24 rfl rfl
theorem dJ5_compress_0 : decode cJ5_compress 0 = .ok (.iload_n 2, 1) := dk_28 (dk_at dksJ5_compress_0 0 rfl rfl)
theorem dJ5_compress_1 : decode cJ5_compress 1 = .ok (.newarray .byte, 2) := dk_188_8 (dk_at dksJ5_compress_0 1 rfl rfl)
theorem dJ5_compress_3 : decode cJ5_compress 3 = .ok (.astore_n 3, 1) := dk_78 (dk_at dksJ5_compress_0 3 rfl rfl)
theorem dJ5_compress_4 : decode cJ5_compress 4 = .ok (.aload_n 0, 1) := dk_42 (dk_at dksJ5_compress_0 4 rfl rfl)
theorem dJ5_compress_5 : decode cJ5_compress 5 = .ok (.iload_n 1, 1) := dk_27 (dk_at dksJ5_compress_0 5 rfl rfl)
theorem dJ5_compress_6 : decode cJ5_compress 6 = .ok (.aload_n 3, 1) := dk_45 (dk_at dksJ5_compress_0 6 rfl rfl)
theorem dJ5_compress_7 : decode cJ5_compress 7 = .ok (.iconst 0, 1) := dk_3 (dk_at dksJ5_compress_0 7 rfl rfl)
theorem dJ5_compress_8 : decode cJ5_compress 8 = .ok (.iload_n 2, 1) := dk_28 (dk_at dksJ5_compress_0 8 rfl rfl)
theorem dJ5_compress_9 : decode cJ5_compress 9 = .ok (.invokestatic 115, 3) := dk_184 0 115 (dk_at dksJ5_compress_0 9 rfl rfl)
theorem dJ5_compress_12 : decode cJ5_compress 12 = .ok (.istore 4, 2) := dk_54 4 (dk_at dksJ5_compress_0 12 rfl rfl)
theorem dJ5_compress_14 : decode cJ5_compress 14 = .ok (.iload 4, 2) := dk_21 4 (dk_at dksJ5_compress_0 14 rfl rfl)
theorem dJ5_compress_16 : decode cJ5_compress 16 = .ok (.iload_n 2, 1) := dk_28 (dk_at dksJ5_compress_0 16 rfl rfl)
theorem dJ5_compress_17 : decode cJ5_compress 17 = .ok (.if_icmp .eq 40, 3) := dk_159 0 40 (dk_at dksJ5_compress_0 17 rfl rfl)
theorem dJ5_compress_20 : decode cJ5_compress 20 = .ok (.aload_n 0, 1) := dk_42 (dk_at dksJ5_compress_0 20 rfl rfl)
theorem dJ5_compress_21 : decode cJ5_compress 21 = .ok (.iload_n 1, 1) := dk_27 (dk_at dksJ5_compress_0 21 rfl rfl)
theorem dJ5_compress_22 : decode cJ5_compress 22 = .ok (.iload_n 2, 1) := dk_28 (dk_at dksJ5_compress_0 22 rfl rfl)
theorem dJ5_compress_23 : decode cJ5_compress 23 = .ok (.invokestatic 119, 3) := dk_184 0 119 (dk_at dksJ5_compress_1 0 rfl rfl)
theorem dJ5_compress_26 : decode cJ5_compress 26 = .ok (.astore 5, 2) := dk_58 5 (dk_at dksJ5_compress_1 3 rfl rfl)
theorem dJ5_compress_28 : decode cJ5_compress 28 = .ok (.aload 5, 2) := dk_25 5 (dk_at dksJ5_compress_1 5 rfl rfl)
theorem dJ5_compress_30 : decode cJ5_compress 30 = .ok (.iload 4, 2) := dk_21 4 (dk_at dksJ5_compress_1 7 rfl rfl)
theorem dJ5_compress_32 : decode cJ5_compress 32 = .ok (.invokestatic 71, 3) := dk_184 0 71 (dk_at dksJ5_compress_1 9 rfl rfl)
theorem dJ5_compress_35 : decode cJ5_compress 35 = .ok (.sipush 255, 3) := dk_17 0 255 (dk_at dksJ5_compress_1 12 rfl rfl)
theorem dJ5_compress_38 : decode cJ5_compress 38 = .ok (.if_icmp .gt 16, 3) := dk_163 0 16 (dk_at dksJ5_compress_1 15 rfl rfl)
theorem dJ5_compress_41 : decode cJ5_compress 41 = .ok (.aload 5, 2) := dk_25 5 (dk_at dksJ5_compress_1 18 rfl rfl)
theorem dJ5_compress_43 : decode cJ5_compress 43 = .ok (.iconst 0, 1) := dk_3 (dk_at dksJ5_compress_1 20 rfl rfl)
theorem dJ5_compress_44 : decode cJ5_compress 44 = .ok (.aload_n 3, 1) := dk_45 (dk_at dksJ5_compress_1 21 rfl rfl)
theorem dJ5_compress_45 : decode cJ5_compress 45 = .ok (.iconst 0, 1) := dk_3 (dk_at dksJ5_compress_1 22 rfl rfl)
theorem dJ5_compress_46 : decode cJ5_compress 46 = .ok (.iload_n 2, 1) := dk_28 (dk_at dksJ5_compress_1 23 rfl rfl)
theorem dJ5_compress_47 : decode cJ5_compress 47 = .ok (.invokestatic 123, 3) := dk_184 0 123 (dk_at dksJ5_compress_2 0 rfl rfl)
theorem dJ5_compress_50 : decode cJ5_compress 50 = .ok (.iload_n 2, 1) := dk_28 (dk_at dksJ5_compress_2 3 rfl rfl)
theorem dJ5_compress_51 : decode cJ5_compress 51 = .ok (.if_icmp .eq 6, 3) := dk_159 0 6 (dk_at dksJ5_compress_2 4 rfl rfl)
theorem dJ5_compress_54 : decode cJ5_compress 54 = .ok (.aload 5, 2) := dk_25 5 (dk_at dksJ5_compress_2 7 rfl rfl)
theorem dJ5_compress_56 : decode cJ5_compress 56 = .ok (.areturn, 1) := dk_176 (dk_at dksJ5_compress_2 9 rfl rfl)
theorem dJ5_compress_57 : decode cJ5_compress 57 = .ok (.aload_n 3, 1) := dk_45 (dk_at dksJ5_compress_2 10 rfl rfl)
theorem dJ5_compress_58 : decode cJ5_compress 58 = .ok (.areturn, 1) := dk_176 (dk_at dksJ5_compress_2 11 rfl rfl)
abbrev cJ5_compress_2 : ByteArray := prog_24_method_21_code
def yJ5_compress_2 : MethodName := ⟨RJ5, "compress", "([CI[BII)I"⟩
def dkwJ5_compress_2_1 : List UInt8 := [21, 5, 172, 44, 29, 21, 6, 145, 84, 132, 1, 1, 132, 3, 1, 132, 5, 1, 167, 255, 218, 21, 4, 172]
abbrev dktJ5_compress_2_1 : List UInt8 := dkwJ5_compress_2_1 ++ []
def dkwJ5_compress_2_0 : List UInt8 := [3, 54, 5, 21, 5, 21, 4, 162, 0, 37, 42, 27, 52, 54, 6, 21, 6, 17, 0, 255, 164, 0, 6]
abbrev dktJ5_compress_2_0 : List UInt8 := dkwJ5_compress_2_0 ++ dktJ5_compress_2_1
theorem dksJ5_compress_2_0 : cJ5_compress_2.data.toList.drop 0 = dktJ5_compress_2_0 := by decide +kernel
theorem dksJ5_compress_2_1 : cJ5_compress_2.data.toList.drop 23 = dktJ5_compress_2_1 := dk_seg dksJ5_compress_2_0 23 rfl rfl
theorem dJ5_compress_2_0 : decode cJ5_compress_2 0 = .ok (.iconst 0, 1) := dk_3 (dk_at dksJ5_compress_2_0 0 rfl rfl)
theorem dJ5_compress_2_1 : decode cJ5_compress_2 1 = .ok (.istore 5, 2) := dk_54 5 (dk_at dksJ5_compress_2_0 1 rfl rfl)
theorem dJ5_compress_2_3 : decode cJ5_compress_2 3 = .ok (.iload 5, 2) := dk_21 5 (dk_at dksJ5_compress_2_0 3 rfl rfl)
theorem dJ5_compress_2_5 : decode cJ5_compress_2 5 = .ok (.iload 4, 2) := dk_21 4 (dk_at dksJ5_compress_2_0 5 rfl rfl)
theorem dJ5_compress_2_7 : decode cJ5_compress_2 7 = .ok (.if_icmp .ge 37, 3) := dk_162 0 37 (dk_at dksJ5_compress_2_0 7 rfl rfl)
theorem dJ5_compress_2_10 : decode cJ5_compress_2 10 = .ok (.aload_n 0, 1) := dk_42 (dk_at dksJ5_compress_2_0 10 rfl rfl)
theorem dJ5_compress_2_11 : decode cJ5_compress_2 11 = .ok (.iload_n 1, 1) := dk_27 (dk_at dksJ5_compress_2_0 11 rfl rfl)
theorem dJ5_compress_2_12 : decode cJ5_compress_2 12 = .ok (.caload, 1) := dk_52 (dk_at dksJ5_compress_2_0 12 rfl rfl)
theorem dJ5_compress_2_13 : decode cJ5_compress_2 13 = .ok (.istore 6, 2) := dk_54 6 (dk_at dksJ5_compress_2_0 13 rfl rfl)
theorem dJ5_compress_2_15 : decode cJ5_compress_2 15 = .ok (.iload 6, 2) := dk_21 6 (dk_at dksJ5_compress_2_0 15 rfl rfl)
theorem dJ5_compress_2_17 : decode cJ5_compress_2 17 = .ok (.sipush 255, 3) := dk_17 0 255 (dk_at dksJ5_compress_2_0 17 rfl rfl)
theorem dJ5_compress_2_20 : decode cJ5_compress_2 20 = .ok (.if_icmp .le 6, 3) := dk_164 0 6 (dk_at dksJ5_compress_2_0 20 rfl rfl)
theorem dJ5_compress_2_23 : decode cJ5_compress_2 23 = .ok (.iload 5, 2) := dk_21 5 (dk_at dksJ5_compress_2_1 0 rfl rfl)
theorem dJ5_compress_2_25 : decode cJ5_compress_2 25 = .ok (.ireturn, 1) := dk_172 (dk_at dksJ5_compress_2_1 2 rfl rfl)
theorem dJ5_compress_2_26 : decode cJ5_compress_2 26 = .ok (.aload_n 2, 1) := dk_44 (dk_at dksJ5_compress_2_1 3 rfl rfl)
theorem dJ5_compress_2_27 : decode cJ5_compress_2 27 = .ok (.iload_n 3, 1) := dk_29 (dk_at dksJ5_compress_2_1 4 rfl rfl)
theorem dJ5_compress_2_28 : decode cJ5_compress_2 28 = .ok (.iload 6, 2) := dk_21 6 (dk_at dksJ5_compress_2_1 5 rfl rfl)
theorem dJ5_compress_2_30 : decode cJ5_compress_2 30 = .ok (.i2b, 1) := dk_145 (dk_at dksJ5_compress_2_1 7 rfl rfl)
theorem dJ5_compress_2_31 : decode cJ5_compress_2 31 = .ok (.bastore, 1) := dk_84 (dk_at dksJ5_compress_2_1 8 rfl rfl)
theorem dJ5_compress_2_32 : decode cJ5_compress_2 32 = .ok (.iinc 1 1, 3) := dk_132 1 1 (dk_at dksJ5_compress_2_1 9 rfl rfl)
theorem dJ5_compress_2_35 : decode cJ5_compress_2 35 = .ok (.iinc 3 1, 3) := dk_132 3 1 (dk_at dksJ5_compress_2_1 12 rfl rfl)
theorem dJ5_compress_2_38 : decode cJ5_compress_2 38 = .ok (.iinc 5 1, 3) := dk_132 5 1 (dk_at dksJ5_compress_2_1 15 rfl rfl)
theorem dJ5_compress_2_41 : decode cJ5_compress_2 41 = .ok (.goto (-38), 3) := dk_167 255 218 (dk_at dksJ5_compress_2_1 18 rfl rfl)
theorem dJ5_compress_2_44 : decode cJ5_compress_2 44 = .ok (.iload 4, 2) := dk_21 4 (dk_at dksJ5_compress_2_1 21 rfl rfl)
theorem dJ5_compress_2_46 : decode cJ5_compress_2 46 = .ok (.ireturn, 1) := dk_172 (dk_at dksJ5_compress_2_1 23 rfl rfl)
abbrev cJ5_toBytes : ByteArray := prog_24_method_14_code
def yJ5_toBytes : MethodName := ⟨RJ5, "toBytes", "([CII)[B"⟩
def dkwJ5_toBytes_1 : List UInt8 := [132, 1, 1, 132, 4, 1, 167, 255, 235, 45, 176]
abbrev dktJ5_toBytes_1 : List UInt8 := dkwJ5_toBytes_1 ++ []
def dkwJ5_toBytes_0 : List UInt8 := [28, 184, 0, 107, 78, 3, 54, 4, 21, 4, 28, 162, 0, 21, 45, 21, 4, 42, 27, 52, 184, 0, 111]
abbrev dktJ5_toBytes_0 : List UInt8 := dkwJ5_toBytes_0 ++ dktJ5_toBytes_1
theorem dksJ5_toBytes_0 : cJ5_toBytes.data.toList.drop 0 = dktJ5_toBytes_0 := by decide +kernel
theorem dksJ5_toBytes_1 : cJ5_toBytes.data.toList.drop 23 = dktJ5_toBytes_1 := dk_seg dksJ5_toBytes_0 23 rfl rfl
theorem dJ5_toBytes_0 : decode cJ5_toBytes 0 = .ok (.iload_n 2, 1) := dk_28 (dk_at dksJ5_toBytes_0 0 rfl rfl)
theorem dJ5_toBytes_1 : decode cJ5_toBytes 1 = .ok (.invokestatic 107, 3) := dk_184 0 107 (dk_at dksJ5_toBytes_0 1 rfl rfl)
theorem dJ5_toBytes_4 : decode cJ5_toBytes 4 = .ok (.astore_n 3, 1) := dk_78 (dk_at dksJ5_toBytes_0 4 rfl rfl)
theorem dJ5_toBytes_5 : decode cJ5_toBytes 5 = .ok (.iconst 0, 1) := dk_3 (dk_at dksJ5_toBytes_0 5 rfl rfl)
theorem dJ5_toBytes_6 : decode cJ5_toBytes 6 = .ok (.istore 4, 2) := dk_54 4 (dk_at dksJ5_toBytes_0 6 rfl rfl)
theorem dJ5_toBytes_8 : decode cJ5_toBytes 8 = .ok (.iload 4, 2) := dk_21 4 (dk_at dksJ5_toBytes_0 8 rfl rfl)
theorem dJ5_toBytes_10 : decode cJ5_toBytes 10 = .ok (.iload_n 2, 1) := dk_28 (dk_at dksJ5_toBytes_0 10 rfl rfl)
theorem dJ5_toBytes_11 : decode cJ5_toBytes 11 = .ok (.if_icmp .ge 21, 3) := dk_162 0 21 (dk_at dksJ5_toBytes_0 11 rfl rfl)
theorem dJ5_toBytes_14 : decode cJ5_toBytes 14 = .ok (.aload_n 3, 1) := dk_45 (dk_at dksJ5_toBytes_0 14 rfl rfl)
theorem dJ5_toBytes_15 : decode cJ5_toBytes 15 = .ok (.iload 4, 2) := dk_21 4 (dk_at dksJ5_toBytes_0 15 rfl rfl)
theorem dJ5_toBytes_17 : decode cJ5_toBytes 17 = .ok (.aload_n 0, 1) := dk_42 (dk_at dksJ5_toBytes_0 17 rfl rfl)
theorem dJ5_toBytes_18 : decode cJ5_toBytes 18 = .ok (.iload_n 1, 1) := dk_27 (dk_at dksJ5_toBytes_0 18 rfl rfl)
theorem dJ5_toBytes_19 : decode cJ5_toBytes 19 = .ok (.caload, 1) := dk_52 (dk_at dksJ5_toBytes_0 19 rfl rfl)
theorem dJ5_toBytes_20 : decode cJ5_toBytes 20 = .ok (.invokestatic 111, 3) := dk_184 0 111 (dk_at dksJ5_toBytes_0 20 rfl rfl)
theorem dJ5_toBytes_23 : decode cJ5_toBytes 23 = .ok (.iinc 1 1, 3) := dk_132 1 1 (dk_at dksJ5_toBytes_1 0 rfl rfl)
theorem dJ5_toBytes_26 : decode cJ5_toBytes 26 = .ok (.iinc 4 1, 3) := dk_132 4 1 (dk_at dksJ5_toBytes_1 3 rfl rfl)
theorem dJ5_toBytes_29 : decode cJ5_toBytes 29 = .ok (.goto (-21), 3) := dk_167 255 235 (dk_at dksJ5_toBytes_1 6 rfl rfl)
theorem dJ5_toBytes_32 : decode cJ5_toBytes 32 = .ok (.aload_n 3, 1) := dk_45 (dk_at dksJ5_toBytes_1 9 rfl rfl)
theorem dJ5_toBytes_33 : decode cJ5_toBytes 33 = .ok (.areturn, 1) := dk_176 (dk_at dksJ5_toBytes_1 10 rfl rfl)
abbrev cJ5_newBytesFor : ByteArray := prog_24_method_2_code
def yJ5_newBytesFor : MethodName := ⟨RJ5, "newBytesFor", "(I)[B"⟩
def dkwJ5_newBytesFor_0 : List UInt8 := [26, 184, 0, 11, 188, 8, 176]
abbrev dktJ5_newBytesFor_0 : List UInt8 := dkwJ5_newBytesFor_0 ++ []
theorem dksJ5_newBytesFor_0 : cJ5_newBytesFor.data.toList.drop 0 = dktJ5_newBytesFor_0 := by decide +kernel
theorem dJ5_newBytesFor_0 : decode cJ5_newBytesFor 0 = .ok (.iload_n 0, 1) := dk_26 (dk_at dksJ5_newBytesFor_0 0 rfl rfl)
theorem dJ5_newBytesFor_1 : decode cJ5_newBytesFor 1 = .ok (.invokestatic 11, 3) := dk_184 0 11 (dk_at dksJ5_newBytesFor_0 1 rfl rfl)
theorem dJ5_newBytesFor_4 : decode cJ5_newBytesFor 4 = .ok (.newarray .byte, 2) := dk_188_8 (dk_at dksJ5_newBytesFor_0 4 rfl rfl)
theorem dJ5_newBytesFor_6 : decode cJ5_newBytesFor 6 = .ok (.areturn, 1) := dk_176 (dk_at dksJ5_newBytesFor_0 6 rfl rfl)
abbrev cJ5_newBytesLength : ByteArray := prog_24_method_3_code
def yJ5_newBytesLength : MethodName := ⟨RJ5, "newBytesLength", "(I)I"⟩
def dkwJ5_newBytesLength_2 : List UInt8 := [182, 0, 32, 182, 0, 37, 183, 0, 41, 191, 26, 4, 120, 172]
abbrev dktJ5_newBytesLength_2 : List UInt8 := dkwJ5_newBytesLength_2 ++ []
def dkwJ5_newBytesLength_1 : List UInt8 := [187, 0, 23, 89, 183, 0, 25, 18, 26, 182, 0, 28, 26, 182, 0, 32, 18, 35, 182, 0, 28, 18, 20]
abbrev dktJ5_newBytesLength_1 : List UInt8 := dkwJ5_newBytesLength_1 ++ dktJ5_newBytesLength_2
def dkwJ5_newBytesLength_0 : List UInt8 := [26, 156, 0, 11, 187, 0, 17, 89, 183, 0, 19, 191, 26, 18, 20, 161, 0, 40, 187, 0, 21, 89]
abbrev dktJ5_newBytesLength_0 : List UInt8 := dkwJ5_newBytesLength_0 ++ dktJ5_newBytesLength_1
theorem dksJ5_newBytesLength_0 : cJ5_newBytesLength.data.toList.drop 0 = dktJ5_newBytesLength_0 := by decide +kernel
theorem dksJ5_newBytesLength_1 : cJ5_newBytesLength.data.toList.drop 22 = dktJ5_newBytesLength_1 := dk_seg dksJ5_newBytesLength_0 22 rfl rfl
theorem dksJ5_newBytesLength_2 : cJ5_newBytesLength.data.toList.drop 45 = dktJ5_newBytesLength_2 := dk_seg dksJ5_newBytesLength_1 23 rfl rfl
theorem dJ5_newBytesLength_0 : decode cJ5_newBytesLength 0 = .ok (.iload_n 0, 1) := dk_26 (dk_at dksJ5_newBytesLength_0 0 rfl rfl)
theorem dJ5_newBytesLength_1 : decode cJ5_newBytesLength 1 = .ok (.ifCond .ge 11, 3) := dk_156 0 11 (dk_at dksJ5_newBytesLength_0 1 rfl rfl)
theorem dJ5_newBytesLength_4 : decode cJ5_newBytesLength 4 = .ok (.new 17, 3) := dk_187 0 17 (dk_at dksJ5_newBytesLength_0 4 rfl rfl)
theorem dJ5_newBytesLength_7 : decode cJ5_newBytesLength 7 = .ok (.dup, 1) := dk_89 (dk_at dksJ5_newBytesLength_0 7 rfl rfl)
theorem dJ5_newBytesLength_8 : decode cJ5_newBytesLength 8 = .ok (.invokespecial 19, 3) := dk_183 0 19 (dk_at dksJ5_newBytesLength_0 8 rfl rfl)
theorem dJ5_newBytesLength_11 : decode cJ5_newBytesLength 11 = .ok (.athrow, 1) := dk_191 (dk_at dksJ5_newBytesLength_0 11 rfl rfl)
theorem dJ5_newBytesLength_12 : decode cJ5_newBytesLength 12 = .ok (.iload_n 0, 1) := dk_26 (dk_at dksJ5_newBytesLength_0 12 rfl rfl)
theorem dJ5_newBytesLength_13 : decode cJ5_newBytesLength 13 = .ok (.ldc 20, 2) := dk_18 20 (dk_at dksJ5_newBytesLength_0 13 rfl rfl)
theorem dJ5_newBytesLength_15 : decode cJ5_newBytesLength 15 = .ok (.if_icmp .lt 40, 3) := dk_161 0 40 (dk_at dksJ5_newBytesLength_0 15 rfl rfl)
theorem dJ5_newBytesLength_18 : decode cJ5_newBytesLength 18 = .ok (.new 21, 3) := dk_187 0 21 (dk_at dksJ5_newBytesLength_0 18 rfl rfl)
theorem dJ5_newBytesLength_21 : decode cJ5_newBytesLength 21 = .ok (.dup, 1) := dk_89 (dk_at dksJ5_newBytesLength_0 21 rfl rfl)
theorem dJ5_newBytesLength_22 : decode cJ5_newBytesLength 22 = .ok (.new 23, 3) := dk_187 0 23 (dk_at dksJ5_newBytesLength_1 0 rfl rfl)
theorem dJ5_newBytesLength_25 : decode cJ5_newBytesLength 25 = .ok (.dup, 1) := dk_89 (dk_at dksJ5_newBytesLength_1 3 rfl rfl)
theorem dJ5_newBytesLength_26 : decode cJ5_newBytesLength 26 = .ok (.invokespecial 25, 3) := dk_183 0 25 (dk_at dksJ5_newBytesLength_1 4 rfl rfl)
theorem dJ5_newBytesLength_29 : decode cJ5_newBytesLength 29 = .ok (.ldc 26, 2) := dk_18 26 (dk_at dksJ5_newBytesLength_1 7 rfl rfl)
theorem dJ5_newBytesLength_31 : decode cJ5_newBytesLength 31 = .ok (.invokevirtual 28, 3) := dk_182 0 28 (dk_at dksJ5_newBytesLength_1 9 rfl rfl)
theorem dJ5_newBytesLength_34 : decode cJ5_newBytesLength 34 = .ok (.iload_n 0, 1) := dk_26 (dk_at dksJ5_newBytesLength_1 12 rfl rfl)
theorem dJ5_newBytesLength_35 : decode cJ5_newBytesLength 35 = .ok (.invokevirtual 32, 3) := dk_182 0 32 (dk_at dksJ5_newBytesLength_1 13 rfl rfl)
theorem dJ5_newBytesLength_38 : decode cJ5_newBytesLength 38 = .ok (.ldc 35, 2) := dk_18 35 (dk_at dksJ5_newBytesLength_1 16 rfl rfl)
theorem dJ5_newBytesLength_40 : decode cJ5_newBytesLength 40 = .ok (.invokevirtual 28, 3) := dk_182 0 28 (dk_at dksJ5_newBytesLength_1 18 rfl rfl)
theorem dJ5_newBytesLength_43 : decode cJ5_newBytesLength 43 = .ok (.ldc 20, 2) := dk_18 20 (dk_at dksJ5_newBytesLength_1 21 rfl rfl)
theorem dJ5_newBytesLength_45 : decode cJ5_newBytesLength 45 = .ok (.invokevirtual 32, 3) := dk_182 0 32 (dk_at dksJ5_newBytesLength_2 0 rfl rfl)
theorem dJ5_newBytesLength_48 : decode cJ5_newBytesLength 48 = .ok (.invokevirtual 37, 3) := dk_182 0 37 (dk_at dksJ5_newBytesLength_2 3 rfl rfl)
theorem dJ5_newBytesLength_51 : decode cJ5_newBytesLength 51 = .ok (.invokespecial 41, 3) := dk_183 0 41 (dk_at dksJ5_newBytesLength_2 6 rfl rfl)
theorem dJ5_newBytesLength_54 : decode cJ5_newBytesLength 54 = .ok (.athrow, 1) := dk_191 (dk_at dksJ5_newBytesLength_2 9 rfl rfl)
theorem dJ5_newBytesLength_55 : decode cJ5_newBytesLength 55 = .ok (.iload_n 0, 1) := dk_26 (dk_at dksJ5_newBytesLength_2 10 rfl rfl)
theorem dJ5_newBytesLength_56 : decode cJ5_newBytesLength 56 = .ok (.iconst 1, 1) := dk_4 (dk_at dksJ5_newBytesLength_2 11 rfl rfl)
theorem dJ5_newBytesLength_57 : decode cJ5_newBytesLength 57 = .ok (.ishl, 1) := dk_120 (dk_at dksJ5_newBytesLength_2 12 rfl rfl)
theorem dJ5_newBytesLength_58 : decode cJ5_newBytesLength 58 = .ok (.ireturn, 1) := dk_172 (dk_at dksJ5_newBytesLength_2 13 rfl rfl)
abbrev cJ5_putChar : ByteArray := prog_24_method_4_code
def yJ5_putChar : MethodName := ⟨RJ5, "putChar", "([BII)V"⟩
def dkwJ5_putChar_2 : List UInt8 := [178, 0, 63, 122, 145, 84, 177]
abbrev dktJ5_putChar_2 : List UInt8 := dkwJ5_putChar_2 ++ []
def dkwJ5_putChar_1 : List UInt8 := [183, 0, 56, 191, 27, 4, 120, 60, 42, 27, 132, 1, 1, 28, 178, 0, 59, 122, 145, 84, 42, 27, 28]
abbrev dktJ5_putChar_1 : List UInt8 := dkwJ5_putChar_1 ++ dktJ5_putChar_2
def dkwJ5_putChar_0 : List UInt8 := [178, 0, 44, 154, 0, 25, 27, 155, 0, 11, 27, 42, 184, 0, 48, 161, 0, 13, 187, 0, 52, 89, 18, 54]
abbrev dktJ5_putChar_0 : List UInt8 := dkwJ5_putChar_0 ++ dktJ5_putChar_1
theorem dksJ5_putChar_0 : cJ5_putChar.data.toList.drop 0 = dktJ5_putChar_0 := by decide +kernel
theorem dksJ5_putChar_1 : cJ5_putChar.data.toList.drop 24 = dktJ5_putChar_1 := dk_seg dksJ5_putChar_0 24 rfl rfl
theorem dksJ5_putChar_2 : cJ5_putChar.data.toList.drop 47 = dktJ5_putChar_2 := dk_seg dksJ5_putChar_1 23 rfl rfl
theorem dJ5_putChar_0 : decode cJ5_putChar 0 = .ok (.getstatic 44, 3) := dk_178 0 44 (dk_at dksJ5_putChar_0 0 rfl rfl)
theorem dJ5_putChar_3 : decode cJ5_putChar 3 = .ok (.ifCond .ne 25, 3) := dk_154 0 25 (dk_at dksJ5_putChar_0 3 rfl rfl)
theorem dJ5_putChar_6 : decode cJ5_putChar 6 = .ok (.iload_n 1, 1) := dk_27 (dk_at dksJ5_putChar_0 6 rfl rfl)
theorem dJ5_putChar_7 : decode cJ5_putChar 7 = .ok (.ifCond .lt 11, 3) := dk_155 0 11 (dk_at dksJ5_putChar_0 7 rfl rfl)
theorem dJ5_putChar_10 : decode cJ5_putChar 10 = .ok (.iload_n 1, 1) := dk_27 (dk_at dksJ5_putChar_0 10 rfl rfl)
theorem dJ5_putChar_11 : decode cJ5_putChar 11 = .ok (.aload_n 0, 1) := dk_42 (dk_at dksJ5_putChar_0 11 rfl rfl)
theorem dJ5_putChar_12 : decode cJ5_putChar 12 = .ok (.invokestatic 48, 3) := dk_184 0 48 (dk_at dksJ5_putChar_0 12 rfl rfl)
theorem dJ5_putChar_15 : decode cJ5_putChar 15 = .ok (.if_icmp .lt 13, 3) := dk_161 0 13 (dk_at dksJ5_putChar_0 15 rfl rfl)
theorem dJ5_putChar_18 : decode cJ5_putChar 18 = .ok (.new 52, 3) := dk_187 0 52 (dk_at dksJ5_putChar_0 18 rfl rfl)
theorem dJ5_putChar_21 : decode cJ5_putChar 21 = .ok (.dup, 1) := dk_89 (dk_at dksJ5_putChar_0 21 rfl rfl)
theorem dJ5_putChar_22 : decode cJ5_putChar 22 = .ok (.ldc 54, 2) := dk_18 54 (dk_at dksJ5_putChar_0 22 rfl rfl)
theorem dJ5_putChar_24 : decode cJ5_putChar 24 = .ok (.invokespecial 56, 3) := dk_183 0 56 (dk_at dksJ5_putChar_1 0 rfl rfl)
theorem dJ5_putChar_27 : decode cJ5_putChar 27 = .ok (.athrow, 1) := dk_191 (dk_at dksJ5_putChar_1 3 rfl rfl)
theorem dJ5_putChar_28 : decode cJ5_putChar 28 = .ok (.iload_n 1, 1) := dk_27 (dk_at dksJ5_putChar_1 4 rfl rfl)
theorem dJ5_putChar_29 : decode cJ5_putChar 29 = .ok (.iconst 1, 1) := dk_4 (dk_at dksJ5_putChar_1 5 rfl rfl)
theorem dJ5_putChar_30 : decode cJ5_putChar 30 = .ok (.ishl, 1) := dk_120 (dk_at dksJ5_putChar_1 6 rfl rfl)
theorem dJ5_putChar_31 : decode cJ5_putChar 31 = .ok (.istore_n 1, 1) := dk_60 (dk_at dksJ5_putChar_1 7 rfl rfl)
theorem dJ5_putChar_32 : decode cJ5_putChar 32 = .ok (.aload_n 0, 1) := dk_42 (dk_at dksJ5_putChar_1 8 rfl rfl)
theorem dJ5_putChar_33 : decode cJ5_putChar 33 = .ok (.iload_n 1, 1) := dk_27 (dk_at dksJ5_putChar_1 9 rfl rfl)
theorem dJ5_putChar_34 : decode cJ5_putChar 34 = .ok (.iinc 1 1, 3) := dk_132 1 1 (dk_at dksJ5_putChar_1 10 rfl rfl)
theorem dJ5_putChar_37 : decode cJ5_putChar 37 = .ok (.iload_n 2, 1) := dk_28 (dk_at dksJ5_putChar_1 13 rfl rfl)
theorem dJ5_putChar_38 : decode cJ5_putChar 38 = .ok (.getstatic 59, 3) := dk_178 0 59 (dk_at dksJ5_putChar_1 14 rfl rfl)
theorem dJ5_putChar_41 : decode cJ5_putChar 41 = .ok (.ishr, 1) := dk_122 (dk_at dksJ5_putChar_1 17 rfl rfl)
theorem dJ5_putChar_42 : decode cJ5_putChar 42 = .ok (.i2b, 1) := dk_145 (dk_at dksJ5_putChar_1 18 rfl rfl)
theorem dJ5_putChar_43 : decode cJ5_putChar 43 = .ok (.bastore, 1) := dk_84 (dk_at dksJ5_putChar_1 19 rfl rfl)
theorem dJ5_putChar_44 : decode cJ5_putChar 44 = .ok (.aload_n 0, 1) := dk_42 (dk_at dksJ5_putChar_1 20 rfl rfl)
theorem dJ5_putChar_45 : decode cJ5_putChar 45 = .ok (.iload_n 1, 1) := dk_27 (dk_at dksJ5_putChar_1 21 rfl rfl)
theorem dJ5_putChar_46 : decode cJ5_putChar 46 = .ok (.iload_n 2, 1) := dk_28 (dk_at dksJ5_putChar_1 22 rfl rfl)
theorem dJ5_putChar_47 : decode cJ5_putChar 47 = .ok (.getstatic 63, 3) := dk_178 0 63 (dk_at dksJ5_putChar_2 0 rfl rfl)
theorem dJ5_putChar_50 : decode cJ5_putChar 50 = .ok (.ishr, 1) := dk_122 (dk_at dksJ5_putChar_2 3 rfl rfl)
theorem dJ5_putChar_51 : decode cJ5_putChar 51 = .ok (.i2b, 1) := dk_145 (dk_at dksJ5_putChar_2 4 rfl rfl)
theorem dJ5_putChar_52 : decode cJ5_putChar 52 = .ok (.bastore, 1) := dk_84 (dk_at dksJ5_putChar_2 5 rfl rfl)
theorem dJ5_putChar_53 : decode cJ5_putChar 53 = .ok (.return_, 1) := dk_177 (dk_at dksJ5_putChar_2 6 rfl rfl)
abbrev cJ5_length : ByteArray := prog_24_method_6_code
def yJ5_length : MethodName := ⟨RJ5, "length", "([B)I"⟩
def dkwJ5_length_0 : List UInt8 := [42, 190, 4, 122, 172]
abbrev dktJ5_length_0 : List UInt8 := dkwJ5_length_0 ++ []
theorem dksJ5_length_0 : cJ5_length.data.toList.drop 0 = dktJ5_length_0 := by decide +kernel
theorem dJ5_length_0 : decode cJ5_length 0 = .ok (.aload_n 0, 1) := dk_42 (dk_at dksJ5_length_0 0 rfl rfl)
theorem dJ5_length_1 : decode cJ5_length 1 = .ok (.arraylength, 1) := dk_190 (dk_at dksJ5_length_0 1 rfl rfl)
theorem dJ5_length_2 : decode cJ5_length 2 = .ok (.iconst 1, 1) := dk_4 (dk_at dksJ5_length_0 2 rfl rfl)
theorem dJ5_length_3 : decode cJ5_length 3 = .ok (.ishr, 1) := dk_122 (dk_at dksJ5_length_0 3 rfl rfl)
theorem dJ5_length_4 : decode cJ5_length 4 = .ok (.ireturn, 1) := dk_172 (dk_at dksJ5_length_0 4 rfl rfl)
abbrev cJ5_getChar : ByteArray := prog_24_method_5_code
def yJ5_getChar : MethodName := ⟨RJ5, "getChar", "([BI)C"⟩
def dkwJ5_getChar_2 : List UInt8 := [51, 17, 0, 255, 126, 178, 0, 63, 120, 128, 146, 172]
abbrev dktJ5_getChar_2 : List UInt8 := dkwJ5_getChar_2 ++ []
def dkwJ5_getChar_1 : List UInt8 := [183, 0, 56, 191, 27, 4, 120, 60, 42, 27, 132, 1, 1, 51, 17, 0, 255, 126, 178, 0, 59, 120, 42, 27]
abbrev dktJ5_getChar_1 : List UInt8 := dkwJ5_getChar_1 ++ dktJ5_getChar_2
def dkwJ5_getChar_0 : List UInt8 := [178, 0, 44, 154, 0, 25, 27, 155, 0, 11, 27, 42, 184, 0, 48, 161, 0, 13, 187, 0, 52, 89, 18, 54]
abbrev dktJ5_getChar_0 : List UInt8 := dkwJ5_getChar_0 ++ dktJ5_getChar_1
theorem dksJ5_getChar_0 : cJ5_getChar.data.toList.drop 0 = dktJ5_getChar_0 := by decide +kernel
theorem dksJ5_getChar_1 : cJ5_getChar.data.toList.drop 24 = dktJ5_getChar_1 := dk_seg dksJ5_getChar_0 24 rfl rfl
theorem dksJ5_getChar_2 : cJ5_getChar.data.toList.drop 48 = dktJ5_getChar_2 := dk_seg dksJ5_getChar_1 24 rfl rfl
theorem dJ5_getChar_0 : decode cJ5_getChar 0 = .ok (.getstatic 44, 3) := dk_178 0 44 (dk_at dksJ5_getChar_0 0 rfl rfl)
theorem dJ5_getChar_3 : decode cJ5_getChar 3 = .ok (.ifCond .ne 25, 3) := dk_154 0 25 (dk_at dksJ5_getChar_0 3 rfl rfl)
theorem dJ5_getChar_6 : decode cJ5_getChar 6 = .ok (.iload_n 1, 1) := dk_27 (dk_at dksJ5_getChar_0 6 rfl rfl)
theorem dJ5_getChar_7 : decode cJ5_getChar 7 = .ok (.ifCond .lt 11, 3) := dk_155 0 11 (dk_at dksJ5_getChar_0 7 rfl rfl)
theorem dJ5_getChar_10 : decode cJ5_getChar 10 = .ok (.iload_n 1, 1) := dk_27 (dk_at dksJ5_getChar_0 10 rfl rfl)
theorem dJ5_getChar_11 : decode cJ5_getChar 11 = .ok (.aload_n 0, 1) := dk_42 (dk_at dksJ5_getChar_0 11 rfl rfl)
theorem dJ5_getChar_12 : decode cJ5_getChar 12 = .ok (.invokestatic 48, 3) := dk_184 0 48 (dk_at dksJ5_getChar_0 12 rfl rfl)
theorem dJ5_getChar_15 : decode cJ5_getChar 15 = .ok (.if_icmp .lt 13, 3) := dk_161 0 13 (dk_at dksJ5_getChar_0 15 rfl rfl)
theorem dJ5_getChar_18 : decode cJ5_getChar 18 = .ok (.new 52, 3) := dk_187 0 52 (dk_at dksJ5_getChar_0 18 rfl rfl)
theorem dJ5_getChar_21 : decode cJ5_getChar 21 = .ok (.dup, 1) := dk_89 (dk_at dksJ5_getChar_0 21 rfl rfl)
theorem dJ5_getChar_22 : decode cJ5_getChar 22 = .ok (.ldc 54, 2) := dk_18 54 (dk_at dksJ5_getChar_0 22 rfl rfl)
theorem dJ5_getChar_24 : decode cJ5_getChar 24 = .ok (.invokespecial 56, 3) := dk_183 0 56 (dk_at dksJ5_getChar_1 0 rfl rfl)
theorem dJ5_getChar_27 : decode cJ5_getChar 27 = .ok (.athrow, 1) := dk_191 (dk_at dksJ5_getChar_1 3 rfl rfl)
theorem dJ5_getChar_28 : decode cJ5_getChar 28 = .ok (.iload_n 1, 1) := dk_27 (dk_at dksJ5_getChar_1 4 rfl rfl)
theorem dJ5_getChar_29 : decode cJ5_getChar 29 = .ok (.iconst 1, 1) := dk_4 (dk_at dksJ5_getChar_1 5 rfl rfl)
theorem dJ5_getChar_30 : decode cJ5_getChar 30 = .ok (.ishl, 1) := dk_120 (dk_at dksJ5_getChar_1 6 rfl rfl)
theorem dJ5_getChar_31 : decode cJ5_getChar 31 = .ok (.istore_n 1, 1) := dk_60 (dk_at dksJ5_getChar_1 7 rfl rfl)
theorem dJ5_getChar_32 : decode cJ5_getChar 32 = .ok (.aload_n 0, 1) := dk_42 (dk_at dksJ5_getChar_1 8 rfl rfl)
theorem dJ5_getChar_33 : decode cJ5_getChar 33 = .ok (.iload_n 1, 1) := dk_27 (dk_at dksJ5_getChar_1 9 rfl rfl)
theorem dJ5_getChar_34 : decode cJ5_getChar 34 = .ok (.iinc 1 1, 3) := dk_132 1 1 (dk_at dksJ5_getChar_1 10 rfl rfl)
theorem dJ5_getChar_37 : decode cJ5_getChar 37 = .ok (.baload, 1) := dk_51 (dk_at dksJ5_getChar_1 13 rfl rfl)
theorem dJ5_getChar_38 : decode cJ5_getChar 38 = .ok (.sipush 255, 3) := dk_17 0 255 (dk_at dksJ5_getChar_1 14 rfl rfl)
theorem dJ5_getChar_41 : decode cJ5_getChar 41 = .ok (.iand, 1) := dk_126 (dk_at dksJ5_getChar_1 17 rfl rfl)
theorem dJ5_getChar_42 : decode cJ5_getChar 42 = .ok (.getstatic 59, 3) := dk_178 0 59 (dk_at dksJ5_getChar_1 18 rfl rfl)
theorem dJ5_getChar_45 : decode cJ5_getChar 45 = .ok (.ishl, 1) := dk_120 (dk_at dksJ5_getChar_1 21 rfl rfl)
theorem dJ5_getChar_46 : decode cJ5_getChar 46 = .ok (.aload_n 0, 1) := dk_42 (dk_at dksJ5_getChar_1 22 rfl rfl)
theorem dJ5_getChar_47 : decode cJ5_getChar 47 = .ok (.iload_n 1, 1) := dk_27 (dk_at dksJ5_getChar_1 23 rfl rfl)
theorem dJ5_getChar_48 : decode cJ5_getChar 48 = .ok (.baload, 1) := dk_51 (dk_at dksJ5_getChar_2 0 rfl rfl)
theorem dJ5_getChar_49 : decode cJ5_getChar 49 = .ok (.sipush 255, 3) := dk_17 0 255 (dk_at dksJ5_getChar_2 1 rfl rfl)
theorem dJ5_getChar_52 : decode cJ5_getChar 52 = .ok (.iand, 1) := dk_126 (dk_at dksJ5_getChar_2 4 rfl rfl)
theorem dJ5_getChar_53 : decode cJ5_getChar 53 = .ok (.getstatic 63, 3) := dk_178 0 63 (dk_at dksJ5_getChar_2 5 rfl rfl)
theorem dJ5_getChar_56 : decode cJ5_getChar 56 = .ok (.ishl, 1) := dk_120 (dk_at dksJ5_getChar_2 8 rfl rfl)
theorem dJ5_getChar_57 : decode cJ5_getChar 57 = .ok (.ior, 1) := dk_128 (dk_at dksJ5_getChar_2 9 rfl rfl)
theorem dJ5_getChar_58 : decode cJ5_getChar 58 = .ok (.i2c, 1) := dk_146 (dk_at dksJ5_getChar_2 10 rfl rfl)
theorem dJ5_getChar_59 : decode cJ5_getChar 59 = .ok (.ireturn, 1) := dk_172 (dk_at dksJ5_getChar_2 11 rfl rfl)
abbrev cJ5_compress_3 : ByteArray := prog_24_method_22_code
def yJ5_compress_3 : MethodName := ⟨RJ5, "compress", "([BI[BII)I"⟩
def dkwJ5_compress_3_2 : List UInt8 := [132, 5, 1, 167, 255, 216, 21, 4, 172]
abbrev dktJ5_compress_3_2 : List UInt8 := dkwJ5_compress_3_2 ++ []
def dkwJ5_compress_3_1 : List UInt8 := [21, 6, 17, 0, 255, 164, 0, 6, 21, 5, 172, 44, 29, 21, 6, 145, 84, 132, 1, 1, 132, 3, 1]
abbrev dktJ5_compress_3_1 : List UInt8 := dkwJ5_compress_3_1 ++ dktJ5_compress_3_2
def dkwJ5_compress_3_0 : List UInt8 := [27, 21, 4, 42, 184, 0, 173, 3, 54, 5, 21, 5, 21, 4, 162, 0, 39, 42, 27, 184, 0, 71, 54, 6]
abbrev dktJ5_compress_3_0 : List UInt8 := dkwJ5_compress_3_0 ++ dktJ5_compress_3_1
theorem dksJ5_compress_3_0 : cJ5_compress_3.data.toList.drop 0 = dktJ5_compress_3_0 := by decide +kernel
theorem dksJ5_compress_3_1 : cJ5_compress_3.data.toList.drop 24 = dktJ5_compress_3_1 := dk_seg dksJ5_compress_3_0 24 rfl rfl
theorem dksJ5_compress_3_2 : cJ5_compress_3.data.toList.drop 47 = dktJ5_compress_3_2 := dk_seg dksJ5_compress_3_1 23 rfl rfl
theorem dJ5_compress_3_0 : decode cJ5_compress_3 0 = .ok (.iload_n 1, 1) := dk_27 (dk_at dksJ5_compress_3_0 0 rfl rfl)
theorem dJ5_compress_3_1 : decode cJ5_compress_3 1 = .ok (.iload 4, 2) := dk_21 4 (dk_at dksJ5_compress_3_0 1 rfl rfl)
theorem dJ5_compress_3_3 : decode cJ5_compress_3 3 = .ok (.aload_n 0, 1) := dk_42 (dk_at dksJ5_compress_3_0 3 rfl rfl)
theorem dJ5_compress_3_4 : decode cJ5_compress_3 4 = .ok (.invokestatic 173, 3) := dk_184 0 173 (dk_at dksJ5_compress_3_0 4 rfl rfl)
theorem dJ5_compress_3_7 : decode cJ5_compress_3 7 = .ok (.iconst 0, 1) := dk_3 (dk_at dksJ5_compress_3_0 7 rfl rfl)
theorem dJ5_compress_3_8 : decode cJ5_compress_3 8 = .ok (.istore 5, 2) := dk_54 5 (dk_at dksJ5_compress_3_0 8 rfl rfl)
theorem dJ5_compress_3_10 : decode cJ5_compress_3 10 = .ok (.iload 5, 2) := dk_21 5 (dk_at dksJ5_compress_3_0 10 rfl rfl)
theorem dJ5_compress_3_12 : decode cJ5_compress_3 12 = .ok (.iload 4, 2) := dk_21 4 (dk_at dksJ5_compress_3_0 12 rfl rfl)
theorem dJ5_compress_3_14 : decode cJ5_compress_3 14 = .ok (.if_icmp .ge 39, 3) := dk_162 0 39 (dk_at dksJ5_compress_3_0 14 rfl rfl)
theorem dJ5_compress_3_17 : decode cJ5_compress_3 17 = .ok (.aload_n 0, 1) := dk_42 (dk_at dksJ5_compress_3_0 17 rfl rfl)
theorem dJ5_compress_3_18 : decode cJ5_compress_3 18 = .ok (.iload_n 1, 1) := dk_27 (dk_at dksJ5_compress_3_0 18 rfl rfl)
theorem dJ5_compress_3_19 : decode cJ5_compress_3 19 = .ok (.invokestatic 71, 3) := dk_184 0 71 (dk_at dksJ5_compress_3_0 19 rfl rfl)
theorem dJ5_compress_3_22 : decode cJ5_compress_3 22 = .ok (.istore 6, 2) := dk_54 6 (dk_at dksJ5_compress_3_0 22 rfl rfl)
theorem dJ5_compress_3_24 : decode cJ5_compress_3 24 = .ok (.iload 6, 2) := dk_21 6 (dk_at dksJ5_compress_3_1 0 rfl rfl)
theorem dJ5_compress_3_26 : decode cJ5_compress_3 26 = .ok (.sipush 255, 3) := dk_17 0 255 (dk_at dksJ5_compress_3_1 2 rfl rfl)
theorem dJ5_compress_3_29 : decode cJ5_compress_3 29 = .ok (.if_icmp .le 6, 3) := dk_164 0 6 (dk_at dksJ5_compress_3_1 5 rfl rfl)
theorem dJ5_compress_3_32 : decode cJ5_compress_3 32 = .ok (.iload 5, 2) := dk_21 5 (dk_at dksJ5_compress_3_1 8 rfl rfl)
theorem dJ5_compress_3_34 : decode cJ5_compress_3 34 = .ok (.ireturn, 1) := dk_172 (dk_at dksJ5_compress_3_1 10 rfl rfl)
theorem dJ5_compress_3_35 : decode cJ5_compress_3 35 = .ok (.aload_n 2, 1) := dk_44 (dk_at dksJ5_compress_3_1 11 rfl rfl)
theorem dJ5_compress_3_36 : decode cJ5_compress_3 36 = .ok (.iload_n 3, 1) := dk_29 (dk_at dksJ5_compress_3_1 12 rfl rfl)
theorem dJ5_compress_3_37 : decode cJ5_compress_3 37 = .ok (.iload 6, 2) := dk_21 6 (dk_at dksJ5_compress_3_1 13 rfl rfl)
theorem dJ5_compress_3_39 : decode cJ5_compress_3 39 = .ok (.i2b, 1) := dk_145 (dk_at dksJ5_compress_3_1 15 rfl rfl)
theorem dJ5_compress_3_40 : decode cJ5_compress_3 40 = .ok (.bastore, 1) := dk_84 (dk_at dksJ5_compress_3_1 16 rfl rfl)
theorem dJ5_compress_3_41 : decode cJ5_compress_3 41 = .ok (.iinc 1 1, 3) := dk_132 1 1 (dk_at dksJ5_compress_3_1 17 rfl rfl)
theorem dJ5_compress_3_44 : decode cJ5_compress_3 44 = .ok (.iinc 3 1, 3) := dk_132 3 1 (dk_at dksJ5_compress_3_1 20 rfl rfl)
theorem dJ5_compress_3_47 : decode cJ5_compress_3 47 = .ok (.iinc 5 1, 3) := dk_132 5 1 (dk_at dksJ5_compress_3_2 0 rfl rfl)
theorem dJ5_compress_3_50 : decode cJ5_compress_3 50 = .ok (.goto (-40), 3) := dk_167 255 216 (dk_at dksJ5_compress_3_2 3 rfl rfl)
theorem dJ5_compress_3_53 : decode cJ5_compress_3 53 = .ok (.iload 4, 2) := dk_21 4 (dk_at dksJ5_compress_3_2 6 rfl rfl)
theorem dJ5_compress_3_55 : decode cJ5_compress_3 55 = .ok (.ireturn, 1) := dk_172 (dk_at dksJ5_compress_3_2 8 rfl rfl)
abbrev cJ5_checkBoundsOffCount : ByteArray := prog_24_method_94_code
def yJ5_checkBoundsOffCount : MethodName := ⟨RJ5, "checkBoundsOffCount", "(II[B)V"⟩
def dkwJ5_checkBoundsOffCount_0 : List UInt8 := [26, 27, 44, 184, 0, 48, 184, 1, 163, 87, 177]
abbrev dktJ5_checkBoundsOffCount_0 : List UInt8 := dkwJ5_checkBoundsOffCount_0 ++ []
theorem dksJ5_checkBoundsOffCount_0 : cJ5_checkBoundsOffCount.data.toList.drop 0 = dktJ5_checkBoundsOffCount_0 := by decide +kernel
theorem dJ5_checkBoundsOffCount_0 : decode cJ5_checkBoundsOffCount 0 = .ok (.iload_n 0, 1) := dk_26 (dk_at dksJ5_checkBoundsOffCount_0 0 rfl rfl)
theorem dJ5_checkBoundsOffCount_1 : decode cJ5_checkBoundsOffCount 1 = .ok (.iload_n 1, 1) := dk_27 (dk_at dksJ5_checkBoundsOffCount_0 1 rfl rfl)
theorem dJ5_checkBoundsOffCount_2 : decode cJ5_checkBoundsOffCount 2 = .ok (.aload_n 2, 1) := dk_44 (dk_at dksJ5_checkBoundsOffCount_0 2 rfl rfl)
theorem dJ5_checkBoundsOffCount_3 : decode cJ5_checkBoundsOffCount 3 = .ok (.invokestatic 48, 3) := dk_184 0 48 (dk_at dksJ5_checkBoundsOffCount_0 3 rfl rfl)
theorem dJ5_checkBoundsOffCount_6 : decode cJ5_checkBoundsOffCount 6 = .ok (.invokestatic 419, 3) := dk_184 1 163 (dk_at dksJ5_checkBoundsOffCount_0 6 rfl rfl)
theorem dJ5_checkBoundsOffCount_9 : decode cJ5_checkBoundsOffCount 9 = .ok (.pop, 1) := dk_87 (dk_at dksJ5_checkBoundsOffCount_0 9 rfl rfl)
theorem dJ5_checkBoundsOffCount_10 : decode cJ5_checkBoundsOffCount 10 = .ok (.return_, 1) := dk_177 (dk_at dksJ5_checkBoundsOffCount_0 10 rfl rfl)
abbrev cJ5_coderFromArrayLen : ByteArray := prog_24_method_15_code
def yJ5_coderFromArrayLen : MethodName := ⟨RJ5, "coderFromArrayLen", "([BI)B"⟩
def dkwJ5_coderFromArrayLen_0 : List UInt8 := [27, 42, 190, 100, 16, 31, 124, 145, 172]
abbrev dktJ5_coderFromArrayLen_0 : List UInt8 := dkwJ5_coderFromArrayLen_0 ++ []
theorem dksJ5_coderFromArrayLen_0 : cJ5_coderFromArrayLen.data.toList.drop 0 = dktJ5_coderFromArrayLen_0 := by decide +kernel
theorem dJ5_coderFromArrayLen_0 : decode cJ5_coderFromArrayLen 0 = .ok (.iload_n 1, 1) := dk_27 (dk_at dksJ5_coderFromArrayLen_0 0 rfl rfl)
theorem dJ5_coderFromArrayLen_1 : decode cJ5_coderFromArrayLen 1 = .ok (.aload_n 0, 1) := dk_42 (dk_at dksJ5_coderFromArrayLen_0 1 rfl rfl)
theorem dJ5_coderFromArrayLen_2 : decode cJ5_coderFromArrayLen 2 = .ok (.arraylength, 1) := dk_190 (dk_at dksJ5_coderFromArrayLen_0 2 rfl rfl)
theorem dJ5_coderFromArrayLen_3 : decode cJ5_coderFromArrayLen 3 = .ok (.isub, 1) := dk_100 (dk_at dksJ5_coderFromArrayLen_0 3 rfl rfl)
theorem dJ5_coderFromArrayLen_4 : decode cJ5_coderFromArrayLen 4 = .ok (.bipush 31, 2) := dk_16 31 (dk_at dksJ5_coderFromArrayLen_0 4 rfl rfl)
theorem dJ5_coderFromArrayLen_6 : decode cJ5_coderFromArrayLen 6 = .ok (.iushr, 1) := dk_124 (dk_at dksJ5_coderFromArrayLen_0 6 rfl rfl)
theorem dJ5_coderFromArrayLen_7 : decode cJ5_coderFromArrayLen 7 = .ok (.i2b, 1) := dk_145 (dk_at dksJ5_coderFromArrayLen_0 7 rfl rfl)
theorem dJ5_coderFromArrayLen_8 : decode cJ5_coderFromArrayLen 8 = .ok (.ireturn, 1) := dk_172 (dk_at dksJ5_coderFromArrayLen_0 8 rfl rfl)
abbrev cJ5_hashCode : ByteArray := prog_24_method_39_code
def yJ5_hashCode : MethodName := ⟨RJ5, "hashCode", "([B)I"⟩
def dkwJ5_hashCode_2 : List UInt8 := [3, 167, 0, 22, 42, 3, 184, 0, 71, 167, 0, 14, 42, 3, 42, 190, 4, 122, 3, 8, 184, 0, 220, 172]
abbrev dktJ5_hashCode_2 : List UInt8 := dkwJ5_hashCode_2 ++ []
def dkwJ5_hashCode_1 : List UInt8 := [171, 0, 0, 0, 0, 38, 0, 0, 0, 2, 0, 0, 0, 0, 0, 0, 0, 26, 0, 0, 0, 2, 0, 0, 0, 30]
abbrev dktJ5_hashCode_1 : List UInt8 := dkwJ5_hashCode_1 ++ dktJ5_hashCode_2
def dkwJ5_hashCode_0 : List UInt8 := [42, 190]
abbrev dktJ5_hashCode_0 : List UInt8 := dkwJ5_hashCode_0 ++ dktJ5_hashCode_1
theorem dksJ5_hashCode_0 : cJ5_hashCode.data.toList.drop 0 = dktJ5_hashCode_0 := by decide +kernel
theorem dksJ5_hashCode_1 : cJ5_hashCode.data.toList.drop 2 = dktJ5_hashCode_1 := dk_seg dksJ5_hashCode_0 2 rfl rfl
theorem dksJ5_hashCode_2 : cJ5_hashCode.data.toList.drop 28 = dktJ5_hashCode_2 := dk_seg dksJ5_hashCode_1 26 rfl rfl
theorem dJ5_hashCode_0 : decode cJ5_hashCode 0 = .ok (.aload_n 0, 1) := dk_42 (dk_at dksJ5_hashCode_0 0 rfl rfl)
theorem dJ5_hashCode_1 : decode cJ5_hashCode 1 = .ok (.arraylength, 1) := dk_190 (dk_at dksJ5_hashCode_0 1 rfl rfl)
theorem dJ5_hashCode_2 : decode cJ5_hashCode 2 = .ok (.lookupswitch 38 #[(0, 26), (2, 30)], 26) := by decide +kernel
theorem dJ5_hashCode_28 : decode cJ5_hashCode 28 = .ok (.iconst 0, 1) := dk_3 (dk_at dksJ5_hashCode_2 0 rfl rfl)
theorem dJ5_hashCode_29 : decode cJ5_hashCode 29 = .ok (.goto 22, 3) := dk_167 0 22 (dk_at dksJ5_hashCode_2 1 rfl rfl)
theorem dJ5_hashCode_32 : decode cJ5_hashCode 32 = .ok (.aload_n 0, 1) := dk_42 (dk_at dksJ5_hashCode_2 4 rfl rfl)
theorem dJ5_hashCode_33 : decode cJ5_hashCode 33 = .ok (.iconst 0, 1) := dk_3 (dk_at dksJ5_hashCode_2 5 rfl rfl)
theorem dJ5_hashCode_34 : decode cJ5_hashCode 34 = .ok (.invokestatic 71, 3) := dk_184 0 71 (dk_at dksJ5_hashCode_2 6 rfl rfl)
theorem dJ5_hashCode_37 : decode cJ5_hashCode 37 = .ok (.goto 14, 3) := dk_167 0 14 (dk_at dksJ5_hashCode_2 9 rfl rfl)
theorem dJ5_hashCode_40 : decode cJ5_hashCode 40 = .ok (.aload_n 0, 1) := dk_42 (dk_at dksJ5_hashCode_2 12 rfl rfl)
theorem dJ5_hashCode_41 : decode cJ5_hashCode 41 = .ok (.iconst 0, 1) := dk_3 (dk_at dksJ5_hashCode_2 13 rfl rfl)
theorem dJ5_hashCode_42 : decode cJ5_hashCode 42 = .ok (.aload_n 0, 1) := dk_42 (dk_at dksJ5_hashCode_2 14 rfl rfl)
theorem dJ5_hashCode_43 : decode cJ5_hashCode 43 = .ok (.arraylength, 1) := dk_190 (dk_at dksJ5_hashCode_2 15 rfl rfl)
theorem dJ5_hashCode_44 : decode cJ5_hashCode 44 = .ok (.iconst 1, 1) := dk_4 (dk_at dksJ5_hashCode_2 16 rfl rfl)
theorem dJ5_hashCode_45 : decode cJ5_hashCode 45 = .ok (.ishr, 1) := dk_122 (dk_at dksJ5_hashCode_2 17 rfl rfl)
theorem dJ5_hashCode_46 : decode cJ5_hashCode 46 = .ok (.iconst 0, 1) := dk_3 (dk_at dksJ5_hashCode_2 18 rfl rfl)
theorem dJ5_hashCode_47 : decode cJ5_hashCode 47 = .ok (.iconst 5, 1) := dk_8 (dk_at dksJ5_hashCode_2 19 rfl rfl)
theorem dJ5_hashCode_48 : decode cJ5_hashCode 48 = .ok (.invokestatic 220, 3) := dk_184 0 220 (dk_at dksJ5_hashCode_2 20 rfl rfl)
theorem dJ5_hashCode_51 : decode cJ5_hashCode 51 = .ok (.ireturn, 1) := dk_172 (dk_at dksJ5_hashCode_2 23 rfl rfl)
abbrev cJ5_charAt : ByteArray := prog_24_method_83_code
def yJ5_charAt : MethodName := ⟨RJ5, "charAt", "([BI)C"⟩
def dkwJ5_charAt_0 : List UInt8 := [27, 42, 184, 0, 67, 42, 27, 184, 0, 71, 172]
abbrev dktJ5_charAt_0 : List UInt8 := dkwJ5_charAt_0 ++ []
theorem dksJ5_charAt_0 : cJ5_charAt.data.toList.drop 0 = dktJ5_charAt_0 := by decide +kernel
theorem dJ5_charAt_0 : decode cJ5_charAt 0 = .ok (.iload_n 1, 1) := dk_27 (dk_at dksJ5_charAt_0 0 rfl rfl)
theorem dJ5_charAt_1 : decode cJ5_charAt 1 = .ok (.aload_n 0, 1) := dk_42 (dk_at dksJ5_charAt_0 1 rfl rfl)
theorem dJ5_charAt_2 : decode cJ5_charAt 2 = .ok (.invokestatic 67, 3) := dk_184 0 67 (dk_at dksJ5_charAt_0 2 rfl rfl)
theorem dJ5_charAt_5 : decode cJ5_charAt 5 = .ok (.aload_n 0, 1) := dk_42 (dk_at dksJ5_charAt_0 5 rfl rfl)
theorem dJ5_charAt_6 : decode cJ5_charAt 6 = .ok (.iload_n 1, 1) := dk_27 (dk_at dksJ5_charAt_0 6 rfl rfl)
theorem dJ5_charAt_7 : decode cJ5_charAt 7 = .ok (.invokestatic 71, 3) := dk_184 0 71 (dk_at dksJ5_charAt_0 7 rfl rfl)
theorem dJ5_charAt_10 : decode cJ5_charAt 10 = .ok (.ireturn, 1) := dk_172 (dk_at dksJ5_charAt_0 10 rfl rfl)
abbrev cJ5_checkIndex : ByteArray := prog_24_method_91_code
def yJ5_checkIndex : MethodName := ⟨RJ5, "checkIndex", "(I[B)V"⟩
def dkwJ5_checkIndex_0 : List UInt8 := [26, 43, 184, 0, 48, 184, 1, 158, 177]
abbrev dktJ5_checkIndex_0 : List UInt8 := dkwJ5_checkIndex_0 ++ []
theorem dksJ5_checkIndex_0 : cJ5_checkIndex.data.toList.drop 0 = dktJ5_checkIndex_0 := by decide +kernel
theorem dJ5_checkIndex_0 : decode cJ5_checkIndex 0 = .ok (.iload_n 0, 1) := dk_26 (dk_at dksJ5_checkIndex_0 0 rfl rfl)
theorem dJ5_checkIndex_1 : decode cJ5_checkIndex 1 = .ok (.aload_n 1, 1) := dk_43 (dk_at dksJ5_checkIndex_0 1 rfl rfl)
theorem dJ5_checkIndex_2 : decode cJ5_checkIndex 2 = .ok (.invokestatic 48, 3) := dk_184 0 48 (dk_at dksJ5_checkIndex_0 2 rfl rfl)
theorem dJ5_checkIndex_5 : decode cJ5_checkIndex 5 = .ok (.invokestatic 414, 3) := dk_184 1 158 (dk_at dksJ5_checkIndex_0 5 rfl rfl)
theorem dJ5_checkIndex_8 : decode cJ5_checkIndex 8 = .ok (.return_, 1) := dk_177 (dk_at dksJ5_checkIndex_0 8 rfl rfl)
theorem q97 : (Jvm.Cond.initialized "java/lang/StringUTF16") ∈ lw_all := lw_g (lw_at lw_m1 15 rfl) rfl
theorem q603 : (Jvm.Cond.static ({ cls := "java/lang/StringUTF16", name := "compress", desc := "([CII)[B" } : Jvm.MethodName)) ∈ lw_all := lw_g (lw_at lw_m3 41 rfl) rfl
theorem q604 : (Jvm.Cond.code ({ cls := "java/lang/StringUTF16", name := "compress", desc := "([CII)[B" } : Jvm.MethodName) prog_24_method_16_code (6 : Nat) (Option.some (Jvm.ClassFile.FieldType.array Jvm.ClassFile.FieldType.byte))) ∈ lw_all := lw_g (lw_at lw_m3 42 rfl) rfl
theorem q605 : (Jvm.Cond.methodLink "java/lang/StringUTF16" (115 : Nat) ({ cls := "java/lang/StringUTF16", name := "compress", desc := "([CI[BII)I" } : Jvm.MethodName)) ∈ lw_all := lw_g (lw_at lw_m3 43 rfl) rfl
theorem q606 : (Jvm.Cond.static ({ cls := "java/lang/StringUTF16", name := "compress", desc := "([CI[BII)I" } : Jvm.MethodName)) ∈ lw_all := lw_g (lw_at lw_m3 44 rfl) rfl
theorem q607 : (Jvm.Cond.code ({ cls := "java/lang/StringUTF16", name := "compress", desc := "([CI[BII)I" } : Jvm.MethodName) prog_24_method_21_code (7 : Nat) (Option.some Jvm.ClassFile.FieldType.int)) ∈ lw_all := lw_g (lw_at lw_m3 45 rfl) rfl
theorem q608 : (Jvm.Cond.methodLink "java/lang/StringUTF16" (119 : Nat) ({ cls := "java/lang/StringUTF16", name := "toBytes", desc := "([CII)[B" } : Jvm.MethodName)) ∈ lw_all := lw_g (lw_at lw_m3 46 rfl) rfl
theorem q609 : (Jvm.Cond.static ({ cls := "java/lang/StringUTF16", name := "toBytes", desc := "([CII)[B" } : Jvm.MethodName)) ∈ lw_all := lw_g (lw_at lw_m3 47 rfl) rfl
theorem q610 : (Jvm.Cond.code ({ cls := "java/lang/StringUTF16", name := "toBytes", desc := "([CII)[B" } : Jvm.MethodName) prog_24_method_14_code (5 : Nat) (Option.some (Jvm.ClassFile.FieldType.array Jvm.ClassFile.FieldType.byte))) ∈ lw_all := lw_g (lw_at lw_m3 48 rfl) rfl
theorem q611 : (Jvm.Cond.methodLink "java/lang/StringUTF16" (107 : Nat) ({ cls := "java/lang/StringUTF16", name := "newBytesFor", desc := "(I)[B" } : Jvm.MethodName)) ∈ lw_all := lw_g (lw_at lw_m3 49 rfl) rfl
theorem q612 : (Jvm.Cond.static ({ cls := "java/lang/StringUTF16", name := "newBytesFor", desc := "(I)[B" } : Jvm.MethodName)) ∈ lw_all := lw_g (lw_at lw_m3 50 rfl) rfl
theorem q613 : (Jvm.Cond.code ({ cls := "java/lang/StringUTF16", name := "newBytesFor", desc := "(I)[B" } : Jvm.MethodName) prog_24_method_2_code (1 : Nat) (Option.some (Jvm.ClassFile.FieldType.array Jvm.ClassFile.FieldType.byte))) ∈ lw_all := lw_g (lw_at lw_m3 51 rfl) rfl
theorem q614 : (Jvm.Cond.methodLink "java/lang/StringUTF16" (11 : Nat) ({ cls := "java/lang/StringUTF16", name := "newBytesLength", desc := "(I)I" } : Jvm.MethodName)) ∈ lw_all := lw_g (lw_at lw_m3 52 rfl) rfl
theorem q615 : (Jvm.Cond.static ({ cls := "java/lang/StringUTF16", name := "newBytesLength", desc := "(I)I" } : Jvm.MethodName)) ∈ lw_all := lw_g (lw_at lw_m3 53 rfl) rfl
theorem q616 : (Jvm.Cond.code ({ cls := "java/lang/StringUTF16", name := "newBytesLength", desc := "(I)I" } : Jvm.MethodName) prog_24_method_3_code (1 : Nat) (Option.some Jvm.ClassFile.FieldType.int)) ∈ lw_all := lw_g (lw_at lw_m3 54 rfl) rfl
theorem q617 : (Jvm.Cond.constant "java/lang/StringUTF16" (20 : Nat) (1073741823 : Int32)) ∈ lw_all := lw_g (lw_at lw_m3 55 rfl) rfl
theorem q618 : (Jvm.Cond.methodLink "java/lang/StringUTF16" (111 : Nat) ({ cls := "java/lang/StringUTF16", name := "putChar", desc := "([BII)V" } : Jvm.MethodName)) ∈ lw_all := lw_g (lw_at lw_m3 56 rfl) rfl
theorem q619 : (Jvm.Cond.static ({ cls := "java/lang/StringUTF16", name := "putChar", desc := "([BII)V" } : Jvm.MethodName)) ∈ lw_all := lw_g (lw_at lw_m3 57 rfl) rfl
theorem q620 : (Jvm.Cond.code ({ cls := "java/lang/StringUTF16", name := "putChar", desc := "([BII)V" } : Jvm.MethodName) prog_24_method_4_code (3 : Nat) (Option.none : Option Jvm.ClassFile.FieldType)) ∈ lw_all := lw_g (lw_at lw_m3 58 rfl) rfl
theorem q621 : (Jvm.Cond.fieldLink "java/lang/StringUTF16" (44 : Nat) "java/lang/StringUTF16" "$assertionsDisabled" "Z") ∈ lw_all := lw_g (lw_at lw_m3 59 rfl) rfl
theorem q622 : (Jvm.Cond.laysStatic "java/lang/StringUTF16" "$assertionsDisabled" "Z") ∈ lw_tbl := lw_at lw_m3 60 rfl
theorem q623 : (Jvm.Cond.methodLink "java/lang/StringUTF16" (48 : Nat) ({ cls := "java/lang/StringUTF16", name := "length", desc := "([B)I" } : Jvm.MethodName)) ∈ lw_all := lw_g (lw_at lw_m3 61 rfl) rfl
theorem q624 : (Jvm.Cond.static ({ cls := "java/lang/StringUTF16", name := "length", desc := "([B)I" } : Jvm.MethodName)) ∈ lw_all := lw_g (lw_at lw_m3 62 rfl) rfl
theorem q625 : (Jvm.Cond.code ({ cls := "java/lang/StringUTF16", name := "length", desc := "([B)I" } : Jvm.MethodName) prog_24_method_6_code (1 : Nat) (Option.some Jvm.ClassFile.FieldType.int)) ∈ lw_all := lw_g (lw_at lw_m3 63 rfl) rfl
theorem q626 : (Jvm.Cond.fieldLink "java/lang/StringUTF16" (59 : Nat) "java/lang/StringUTF16" "HI_BYTE_SHIFT" "I") ∈ lw_all := lw_g (lw_at lw_m3 64 rfl) rfl
theorem q627 : (Jvm.Cond.laysStatic "java/lang/StringUTF16" "HI_BYTE_SHIFT" "I") ∈ lw_tbl := lw_at lw_m3 65 rfl
theorem q628 : (Jvm.Cond.fieldLink "java/lang/StringUTF16" (63 : Nat) "java/lang/StringUTF16" "LO_BYTE_SHIFT" "I") ∈ lw_all := lw_g (lw_at lw_m3 66 rfl) rfl
theorem q629 : (Jvm.Cond.laysStatic "java/lang/StringUTF16" "LO_BYTE_SHIFT" "I") ∈ lw_tbl := lw_at lw_m3 67 rfl
theorem q630 : (Jvm.Cond.methodLink "java/lang/StringUTF16" (71 : Nat) ({ cls := "java/lang/StringUTF16", name := "getChar", desc := "([BI)C" } : Jvm.MethodName)) ∈ lw_all := lw_g (lw_at lw_m3 68 rfl) rfl
theorem q631 : (Jvm.Cond.static ({ cls := "java/lang/StringUTF16", name := "getChar", desc := "([BI)C" } : Jvm.MethodName)) ∈ lw_all := lw_g (lw_at lw_m3 69 rfl) rfl
theorem q632 : (Jvm.Cond.code ({ cls := "java/lang/StringUTF16", name := "getChar", desc := "([BI)C" } : Jvm.MethodName) prog_24_method_5_code (2 : Nat) (Option.some Jvm.ClassFile.FieldType.char)) ∈ lw_all := lw_g (lw_at lw_m3 70 rfl) rfl
theorem q633 : (Jvm.Cond.methodLink "java/lang/StringUTF16" (123 : Nat) ({ cls := "java/lang/StringUTF16", name := "compress", desc := "([BI[BII)I" } : Jvm.MethodName)) ∈ lw_all := lw_g (lw_at lw_m3 71 rfl) rfl
theorem q634 : (Jvm.Cond.static ({ cls := "java/lang/StringUTF16", name := "compress", desc := "([BI[BII)I" } : Jvm.MethodName)) ∈ lw_all := lw_g (lw_at lw_m3 72 rfl) rfl
theorem q635 : (Jvm.Cond.code ({ cls := "java/lang/StringUTF16", name := "compress", desc := "([BI[BII)I" } : Jvm.MethodName) prog_24_method_22_code (7 : Nat) (Option.some Jvm.ClassFile.FieldType.int)) ∈ lw_all := lw_g (lw_at lw_m3 73 rfl) rfl
theorem q636 : (Jvm.Cond.methodLink "java/lang/StringUTF16" (173 : Nat) ({ cls := "java/lang/StringUTF16", name := "checkBoundsOffCount", desc := "(II[B)V" } : Jvm.MethodName)) ∈ lw_all := lw_g (lw_at lw_m3 74 rfl) rfl
theorem q637 : (Jvm.Cond.static ({ cls := "java/lang/StringUTF16", name := "checkBoundsOffCount", desc := "(II[B)V" } : Jvm.MethodName)) ∈ lw_all := lw_g (lw_at lw_m3 75 rfl) rfl
theorem q638 : (Jvm.Cond.code ({ cls := "java/lang/StringUTF16", name := "checkBoundsOffCount", desc := "(II[B)V" } : Jvm.MethodName) prog_24_method_94_code (3 : Nat) (Option.none : Option Jvm.ClassFile.FieldType)) ∈ lw_all := lw_g (lw_at lw_m3 76 rfl) rfl
theorem q639 : (Jvm.Cond.methodLink "java/lang/StringUTF16" (419 : Nat) ({ cls := "java/lang/String", name := "checkBoundsOffCount", desc := "(III)I" } : Jvm.MethodName)) ∈ lw_all := lw_g (lw_at lw_m3 77 rfl) rfl
theorem q641 : (Jvm.Cond.static ({ cls := "java/lang/StringUTF16", name := "coderFromArrayLen", desc := "([BI)B" } : Jvm.MethodName)) ∈ lw_all := lw_g (lw_at lw_m3 79 rfl) rfl
theorem q642 : (Jvm.Cond.code ({ cls := "java/lang/StringUTF16", name := "coderFromArrayLen", desc := "([BI)B" } : Jvm.MethodName) prog_24_method_15_code (2 : Nat) (Option.some Jvm.ClassFile.FieldType.byte)) ∈ lw_all := lw_g (lw_at lw_m3 80 rfl) rfl
theorem q723 : (Jvm.Cond.static ({ cls := "java/lang/StringUTF16", name := "hashCode", desc := "([B)I" } : Jvm.MethodName)) ∈ lw_all := lw_g (lw_at lw_m3 161 rfl) rfl
theorem q724 : (Jvm.Cond.code ({ cls := "java/lang/StringUTF16", name := "hashCode", desc := "([B)I" } : Jvm.MethodName) prog_24_method_39_code (1 : Nat) (Option.some Jvm.ClassFile.FieldType.int)) ∈ lw_all := lw_g (lw_at lw_m3 162 rfl) rfl
theorem q725 : (Jvm.Cond.methodLink "java/lang/StringUTF16" (220 : Nat) ({ cls := "jdk/internal/util/ArraysSupport", name := "vectorizedHashCode", desc := "(Ljava/lang/Object;IIII)I" } : Jvm.MethodName)) ∈ lw_all := lw_g (lw_at lw_m3 163 rfl) rfl
theorem q1395 : (Jvm.Cond.static ({ cls := "java/lang/StringUTF16", name := "charAt", desc := "([BI)C" } : Jvm.MethodName)) ∈ lw_all := lw_g (lw_at lw_m6 113 rfl) rfl
theorem q1396 : (Jvm.Cond.code ({ cls := "java/lang/StringUTF16", name := "charAt", desc := "([BI)C" } : Jvm.MethodName) prog_24_method_83_code (2 : Nat) (Option.some Jvm.ClassFile.FieldType.char)) ∈ lw_all := lw_g (lw_at lw_m6 114 rfl) rfl
theorem q1397 : (Jvm.Cond.methodLink "java/lang/StringUTF16" (67 : Nat) ({ cls := "java/lang/StringUTF16", name := "checkIndex", desc := "(I[B)V" } : Jvm.MethodName)) ∈ lw_all := lw_g (lw_at lw_m6 115 rfl) rfl
theorem q1398 : (Jvm.Cond.static ({ cls := "java/lang/StringUTF16", name := "checkIndex", desc := "(I[B)V" } : Jvm.MethodName)) ∈ lw_all := lw_g (lw_at lw_m6 116 rfl) rfl
theorem q1399 : (Jvm.Cond.code ({ cls := "java/lang/StringUTF16", name := "checkIndex", desc := "(I[B)V" } : Jvm.MethodName) prog_24_method_91_code (2 : Nat) (Option.none : Option Jvm.ClassFile.FieldType)) ∈ lw_all := lw_g (lw_at lw_m6 117 rfl) rfl
theorem q1400 : (Jvm.Cond.methodLink "java/lang/StringUTF16" (414 : Nat) ({ cls := "java/lang/String", name := "checkIndex", desc := "(II)V" } : Jvm.MethodName)) ∈ lw_all := lw_g (lw_at lw_m6 118 rfl) rfl

/-! java/lang/StringLatin1 -/
set_option maxRecDepth 100000
def RJ6 : String := "java/lang/StringLatin1"
abbrev cJ6_hashCode : ByteArray := prog_23_method_21_code
def yJ6_hashCode : MethodName := ⟨RJ6, "hashCode", "([B)I"⟩
def dkwJ6_hashCode_2 : List UInt8 := [3, 167, 0, 22, 42, 3, 51, 17, 0, 255, 126, 167, 0, 12, 42, 3, 42, 190, 3, 7, 184, 0, 84, 172]
abbrev dktJ6_hashCode_2 : List UInt8 := dkwJ6_hashCode_2 ++ []
def dkwJ6_hashCode_1 : List UInt8 := [171, 0, 0, 0, 0, 40, 0, 0, 0, 2, 0, 0, 0, 0, 0, 0, 0, 26, 0, 0, 0, 1, 0, 0, 0, 30]
abbrev dktJ6_hashCode_1 : List UInt8 := dkwJ6_hashCode_1 ++ dktJ6_hashCode_2
def dkwJ6_hashCode_0 : List UInt8 := [42, 190]
abbrev dktJ6_hashCode_0 : List UInt8 := dkwJ6_hashCode_0 ++ dktJ6_hashCode_1
theorem dksJ6_hashCode_0 : cJ6_hashCode.data.toList.drop 0 = dktJ6_hashCode_0 := by decide +kernel
theorem dksJ6_hashCode_1 : cJ6_hashCode.data.toList.drop 2 = dktJ6_hashCode_1 := dk_seg dksJ6_hashCode_0 2 rfl rfl
theorem dksJ6_hashCode_2 : cJ6_hashCode.data.toList.drop 28 = dktJ6_hashCode_2 := dk_seg dksJ6_hashCode_1 26 rfl rfl
theorem dJ6_hashCode_0 : decode cJ6_hashCode 0 = .ok (.aload_n 0, 1) := dk_42 (dk_at dksJ6_hashCode_0 0 rfl rfl)
theorem dJ6_hashCode_1 : decode cJ6_hashCode 1 = .ok (.arraylength, 1) := dk_190 (dk_at dksJ6_hashCode_0 1 rfl rfl)
theorem dJ6_hashCode_2 : decode cJ6_hashCode 2 = .ok (.lookupswitch 40 #[(0, 26), (1, 30)], 26) := by decide +kernel
theorem dJ6_hashCode_28 : decode cJ6_hashCode 28 = .ok (.iconst 0, 1) := dk_3 (dk_at dksJ6_hashCode_2 0 rfl rfl)
theorem dJ6_hashCode_29 : decode cJ6_hashCode 29 = .ok (.goto 22, 3) := dk_167 0 22 (dk_at dksJ6_hashCode_2 1 rfl rfl)
theorem dJ6_hashCode_32 : decode cJ6_hashCode 32 = .ok (.aload_n 0, 1) := dk_42 (dk_at dksJ6_hashCode_2 4 rfl rfl)
theorem dJ6_hashCode_33 : decode cJ6_hashCode 33 = .ok (.iconst 0, 1) := dk_3 (dk_at dksJ6_hashCode_2 5 rfl rfl)
theorem dJ6_hashCode_34 : decode cJ6_hashCode 34 = .ok (.baload, 1) := dk_51 (dk_at dksJ6_hashCode_2 6 rfl rfl)
theorem dJ6_hashCode_35 : decode cJ6_hashCode 35 = .ok (.sipush 255, 3) := dk_17 0 255 (dk_at dksJ6_hashCode_2 7 rfl rfl)
theorem dJ6_hashCode_38 : decode cJ6_hashCode 38 = .ok (.iand, 1) := dk_126 (dk_at dksJ6_hashCode_2 10 rfl rfl)
theorem dJ6_hashCode_39 : decode cJ6_hashCode 39 = .ok (.goto 12, 3) := dk_167 0 12 (dk_at dksJ6_hashCode_2 11 rfl rfl)
theorem dJ6_hashCode_42 : decode cJ6_hashCode 42 = .ok (.aload_n 0, 1) := dk_42 (dk_at dksJ6_hashCode_2 14 rfl rfl)
theorem dJ6_hashCode_43 : decode cJ6_hashCode 43 = .ok (.iconst 0, 1) := dk_3 (dk_at dksJ6_hashCode_2 15 rfl rfl)
theorem dJ6_hashCode_44 : decode cJ6_hashCode 44 = .ok (.aload_n 0, 1) := dk_42 (dk_at dksJ6_hashCode_2 16 rfl rfl)
theorem dJ6_hashCode_45 : decode cJ6_hashCode 45 = .ok (.arraylength, 1) := dk_190 (dk_at dksJ6_hashCode_2 17 rfl rfl)
theorem dJ6_hashCode_46 : decode cJ6_hashCode 46 = .ok (.iconst 0, 1) := dk_3 (dk_at dksJ6_hashCode_2 18 rfl rfl)
theorem dJ6_hashCode_47 : decode cJ6_hashCode 47 = .ok (.iconst 4, 1) := dk_7 (dk_at dksJ6_hashCode_2 19 rfl rfl)
theorem dJ6_hashCode_48 : decode cJ6_hashCode 48 = .ok (.invokestatic 84, 3) := dk_184 0 84 (dk_at dksJ6_hashCode_2 20 rfl rfl)
theorem dJ6_hashCode_51 : decode cJ6_hashCode 51 = .ok (.ireturn, 1) := dk_172 (dk_at dksJ6_hashCode_2 23 rfl rfl)
abbrev cJ6_equals : ByteArray := prog_23_method_13_code
def yJ6_equals : MethodName := ⟨RJ6, "equals", "([B[B)Z"⟩
def dkwJ6_equals_1 : List UInt8 := [3, 172, 132, 2, 1, 167, 255, 236, 4, 172, 3, 172]
abbrev dktJ6_equals_1 : List UInt8 := dkwJ6_equals_1 ++ []
def dkwJ6_equals_0 : List UInt8 := [42, 190, 43, 190, 160, 0, 30, 3, 61, 28, 42, 190, 162, 0, 20, 42, 28, 51, 43, 28, 51, 159, 0, 5]
abbrev dktJ6_equals_0 : List UInt8 := dkwJ6_equals_0 ++ dktJ6_equals_1
theorem dksJ6_equals_0 : cJ6_equals.data.toList.drop 0 = dktJ6_equals_0 := by decide +kernel
theorem dksJ6_equals_1 : cJ6_equals.data.toList.drop 24 = dktJ6_equals_1 := dk_seg dksJ6_equals_0 24 rfl rfl
theorem dJ6_equals_0 : decode cJ6_equals 0 = .ok (.aload_n 0, 1) := dk_42 (dk_at dksJ6_equals_0 0 rfl rfl)
theorem dJ6_equals_1 : decode cJ6_equals 1 = .ok (.arraylength, 1) := dk_190 (dk_at dksJ6_equals_0 1 rfl rfl)
theorem dJ6_equals_2 : decode cJ6_equals 2 = .ok (.aload_n 1, 1) := dk_43 (dk_at dksJ6_equals_0 2 rfl rfl)
theorem dJ6_equals_3 : decode cJ6_equals 3 = .ok (.arraylength, 1) := dk_190 (dk_at dksJ6_equals_0 3 rfl rfl)
theorem dJ6_equals_4 : decode cJ6_equals 4 = .ok (.if_icmp .ne 30, 3) := dk_160 0 30 (dk_at dksJ6_equals_0 4 rfl rfl)
theorem dJ6_equals_7 : decode cJ6_equals 7 = .ok (.iconst 0, 1) := dk_3 (dk_at dksJ6_equals_0 7 rfl rfl)
theorem dJ6_equals_8 : decode cJ6_equals 8 = .ok (.istore_n 2, 1) := dk_61 (dk_at dksJ6_equals_0 8 rfl rfl)
theorem dJ6_equals_9 : decode cJ6_equals 9 = .ok (.iload_n 2, 1) := dk_28 (dk_at dksJ6_equals_0 9 rfl rfl)
theorem dJ6_equals_10 : decode cJ6_equals 10 = .ok (.aload_n 0, 1) := dk_42 (dk_at dksJ6_equals_0 10 rfl rfl)
theorem dJ6_equals_11 : decode cJ6_equals 11 = .ok (.arraylength, 1) := dk_190 (dk_at dksJ6_equals_0 11 rfl rfl)
theorem dJ6_equals_12 : decode cJ6_equals 12 = .ok (.if_icmp .ge 20, 3) := dk_162 0 20 (dk_at dksJ6_equals_0 12 rfl rfl)
theorem dJ6_equals_15 : decode cJ6_equals 15 = .ok (.aload_n 0, 1) := dk_42 (dk_at dksJ6_equals_0 15 rfl rfl)
theorem dJ6_equals_16 : decode cJ6_equals 16 = .ok (.iload_n 2, 1) := dk_28 (dk_at dksJ6_equals_0 16 rfl rfl)
theorem dJ6_equals_17 : decode cJ6_equals 17 = .ok (.baload, 1) := dk_51 (dk_at dksJ6_equals_0 17 rfl rfl)
theorem dJ6_equals_18 : decode cJ6_equals 18 = .ok (.aload_n 1, 1) := dk_43 (dk_at dksJ6_equals_0 18 rfl rfl)
theorem dJ6_equals_19 : decode cJ6_equals 19 = .ok (.iload_n 2, 1) := dk_28 (dk_at dksJ6_equals_0 19 rfl rfl)
theorem dJ6_equals_20 : decode cJ6_equals 20 = .ok (.baload, 1) := dk_51 (dk_at dksJ6_equals_0 20 rfl rfl)
theorem dJ6_equals_21 : decode cJ6_equals 21 = .ok (.if_icmp .eq 5, 3) := dk_159 0 5 (dk_at dksJ6_equals_0 21 rfl rfl)
theorem dJ6_equals_24 : decode cJ6_equals 24 = .ok (.iconst 0, 1) := dk_3 (dk_at dksJ6_equals_1 0 rfl rfl)
theorem dJ6_equals_25 : decode cJ6_equals 25 = .ok (.ireturn, 1) := dk_172 (dk_at dksJ6_equals_1 1 rfl rfl)
theorem dJ6_equals_26 : decode cJ6_equals 26 = .ok (.iinc 2 1, 3) := dk_132 2 1 (dk_at dksJ6_equals_1 2 rfl rfl)
theorem dJ6_equals_29 : decode cJ6_equals 29 = .ok (.goto (-20), 3) := dk_167 255 236 (dk_at dksJ6_equals_1 5 rfl rfl)
theorem dJ6_equals_32 : decode cJ6_equals 32 = .ok (.iconst 1, 1) := dk_4 (dk_at dksJ6_equals_1 8 rfl rfl)
theorem dJ6_equals_33 : decode cJ6_equals 33 = .ok (.ireturn, 1) := dk_172 (dk_at dksJ6_equals_1 9 rfl rfl)
theorem dJ6_equals_34 : decode cJ6_equals 34 = .ok (.iconst 0, 1) := dk_3 (dk_at dksJ6_equals_1 10 rfl rfl)
theorem dJ6_equals_35 : decode cJ6_equals 35 = .ok (.ireturn, 1) := dk_172 (dk_at dksJ6_equals_1 11 rfl rfl)
abbrev cJ6_charAt : ByteArray := prog_23_method_2_code
def yJ6_charAt : MethodName := ⟨RJ6, "charAt", "([BI)C"⟩
def dkwJ6_charAt_0 : List UInt8 := [27, 42, 190, 184, 0, 9, 42, 27, 51, 17, 0, 255, 126, 146, 172]
abbrev dktJ6_charAt_0 : List UInt8 := dkwJ6_charAt_0 ++ []
theorem dksJ6_charAt_0 : cJ6_charAt.data.toList.drop 0 = dktJ6_charAt_0 := by decide +kernel
theorem dJ6_charAt_0 : decode cJ6_charAt 0 = .ok (.iload_n 1, 1) := dk_27 (dk_at dksJ6_charAt_0 0 rfl rfl)
theorem dJ6_charAt_1 : decode cJ6_charAt 1 = .ok (.aload_n 0, 1) := dk_42 (dk_at dksJ6_charAt_0 1 rfl rfl)
theorem dJ6_charAt_2 : decode cJ6_charAt 2 = .ok (.arraylength, 1) := dk_190 (dk_at dksJ6_charAt_0 2 rfl rfl)
theorem dJ6_charAt_3 : decode cJ6_charAt 3 = .ok (.invokestatic 9, 3) := dk_184 0 9 (dk_at dksJ6_charAt_0 3 rfl rfl)
theorem dJ6_charAt_6 : decode cJ6_charAt 6 = .ok (.aload_n 0, 1) := dk_42 (dk_at dksJ6_charAt_0 6 rfl rfl)
theorem dJ6_charAt_7 : decode cJ6_charAt 7 = .ok (.iload_n 1, 1) := dk_27 (dk_at dksJ6_charAt_0 7 rfl rfl)
theorem dJ6_charAt_8 : decode cJ6_charAt 8 = .ok (.baload, 1) := dk_51 (dk_at dksJ6_charAt_0 8 rfl rfl)
theorem dJ6_charAt_9 : decode cJ6_charAt 9 = .ok (.sipush 255, 3) := dk_17 0 255 (dk_at dksJ6_charAt_0 9 rfl rfl)
theorem dJ6_charAt_12 : decode cJ6_charAt 12 = .ok (.iand, 1) := dk_126 (dk_at dksJ6_charAt_0 12 rfl rfl)
theorem dJ6_charAt_13 : decode cJ6_charAt 13 = .ok (.i2c, 1) := dk_146 (dk_at dksJ6_charAt_0 13 rfl rfl)
theorem dJ6_charAt_14 : decode cJ6_charAt 14 = .ok (.ireturn, 1) := dk_172 (dk_at dksJ6_charAt_0 14 rfl rfl)
theorem q98 : (Jvm.Cond.initialized "java/lang/StringLatin1") ∈ lw_all := lw_g (lw_at lw_m1 16 rfl) rfl
theorem q682 : (Jvm.Cond.static ({ cls := "java/lang/StringLatin1", name := "hashCode", desc := "([B)I" } : Jvm.MethodName)) ∈ lw_all := lw_g (lw_at lw_m3 120 rfl) rfl
theorem q683 : (Jvm.Cond.code ({ cls := "java/lang/StringLatin1", name := "hashCode", desc := "([B)I" } : Jvm.MethodName) prog_23_method_21_code (1 : Nat) (Option.some Jvm.ClassFile.FieldType.int)) ∈ lw_all := lw_g (lw_at lw_m3 121 rfl) rfl
theorem q684 : (Jvm.Cond.methodLink "java/lang/StringLatin1" (84 : Nat) ({ cls := "jdk/internal/util/ArraysSupport", name := "vectorizedHashCode", desc := "(Ljava/lang/Object;IIII)I" } : Jvm.MethodName)) ∈ lw_all := lw_g (lw_at lw_m3 122 rfl) rfl
theorem q733 : (Jvm.Cond.static ({ cls := "java/lang/StringLatin1", name := "equals", desc := "([B[B)Z" } : Jvm.MethodName)) ∈ lw_all := lw_g (lw_at lw_m3 171 rfl) rfl
theorem q734 : (Jvm.Cond.code ({ cls := "java/lang/StringLatin1", name := "equals", desc := "([B[B)Z" } : Jvm.MethodName) prog_23_method_13_code (3 : Nat) (Option.some Jvm.ClassFile.FieldType.boolean)) ∈ lw_all := lw_g (lw_at lw_m3 172 rfl) rfl
theorem q1386 : (Jvm.Cond.static ({ cls := "java/lang/StringLatin1", name := "charAt", desc := "([BI)C" } : Jvm.MethodName)) ∈ lw_all := lw_g (lw_at lw_m6 104 rfl) rfl
theorem q1387 : (Jvm.Cond.code ({ cls := "java/lang/StringLatin1", name := "charAt", desc := "([BI)C" } : Jvm.MethodName) prog_23_method_2_code (2 : Nat) (Option.some Jvm.ClassFile.FieldType.char)) ∈ lw_all := lw_g (lw_at lw_m6 105 rfl) rfl
theorem q1388 : (Jvm.Cond.methodLink "java/lang/StringLatin1" (9 : Nat) ({ cls := "java/lang/String", name := "checkIndex", desc := "(II)V" } : Jvm.MethodName)) ∈ lw_all := lw_g (lw_at lw_m6 106 rfl) rfl

/-! jdk/internal/util/ArraysSupport -/
set_option maxRecDepth 100000
def RJ7 : String := "jdk/internal/util/ArraysSupport"
abbrev cJ7_vectorizedHashCode : ByteArray := prog_32_method_4_code
def yJ7_vectorizedHashCode : MethodName := ⟨RJ7, "vectorizedHashCode", "(Ljava/lang/Object;IIII)I"⟩
def dkwJ7_vectorizedHashCode_6 : List UInt8 := [183, 0, 91, 18, 92, 182, 0, 94, 21, 4, 182, 0, 98, 182, 0, 101, 183, 0, 105, 191, 172]
abbrev dktJ7_vectorizedHashCode_6 : List UInt8 := dkwJ7_vectorizedHashCode_6 ++ []
def dkwJ7_vectorizedHashCode_5 : List UInt8 := [167, 0, 44, 29, 42, 192, 0, 82, 27, 28, 184, 0, 84, 167, 0, 31, 187, 0, 87, 89, 187, 0, 89, 89]
abbrev dktJ7_vectorizedHashCode_5 : List UInt8 := dkwJ7_vectorizedHashCode_5 ++ dktJ7_vectorizedHashCode_6
def dkwJ7_vectorizedHashCode_4 : List UInt8 := [29, 42, 192, 0, 60, 27, 28, 184, 0, 75, 167, 0, 57, 29, 42, 192, 0, 77, 27, 28, 184, 0, 79]
abbrev dktJ7_vectorizedHashCode_4 : List UInt8 := dkwJ7_vectorizedHashCode_4 ++ dktJ7_vectorizedHashCode_5
def dkwJ7_vectorizedHashCode_3 : List UInt8 := [192, 0, 60, 27, 28, 184, 0, 66, 167, 0, 83, 29, 42, 192, 0, 69, 27, 28, 184, 0, 71, 167, 0, 70]
abbrev dktJ7_vectorizedHashCode_3 : List UInt8 := dkwJ7_vectorizedHashCode_3 ++ dktJ7_vectorizedHashCode_4
def dkwJ7_vectorizedHashCode_2 : List UInt8 := [29, 42, 192, 0, 60, 27, 28, 184, 0, 62, 167, 0, 103, 42, 193, 0, 60, 153, 0, 16, 29, 42]
abbrev dktJ7_vectorizedHashCode_2 : List UInt8 := dkwJ7_vectorizedHashCode_2 ++ dktJ7_vectorizedHashCode_3
def dkwJ7_vectorizedHashCode_1 : List UInt8 := [170, 0, 0, 0, 0, 127, 0, 0, 0, 4, 0, 0, 0, 10, 0, 0, 0, 42, 0, 0, 0, 55, 0, 0, 0, 127, 0, 0, 0, 127, 0, 0, 0, 88, 0, 0, 0, 101, 0, 0, 0, 114]
abbrev dktJ7_vectorizedHashCode_1 : List UInt8 := dkwJ7_vectorizedHashCode_1 ++ dktJ7_vectorizedHashCode_2
def dkwJ7_vectorizedHashCode_0 : List UInt8 := [21, 4]
abbrev dktJ7_vectorizedHashCode_0 : List UInt8 := dkwJ7_vectorizedHashCode_0 ++ dktJ7_vectorizedHashCode_1
theorem dksJ7_vectorizedHashCode_0 : cJ7_vectorizedHashCode.data.toList.drop 0 = dktJ7_vectorizedHashCode_0 := by decide +kernel
theorem dksJ7_vectorizedHashCode_1 : cJ7_vectorizedHashCode.data.toList.drop 2 = dktJ7_vectorizedHashCode_1 := dk_seg dksJ7_vectorizedHashCode_0 2 rfl rfl
theorem dksJ7_vectorizedHashCode_2 : cJ7_vectorizedHashCode.data.toList.drop 44 = dktJ7_vectorizedHashCode_2 := dk_seg dksJ7_vectorizedHashCode_1 42 rfl rfl
theorem dksJ7_vectorizedHashCode_3 : cJ7_vectorizedHashCode.data.toList.drop 66 = dktJ7_vectorizedHashCode_3 := dk_seg dksJ7_vectorizedHashCode_2 22 rfl rfl
theorem dksJ7_vectorizedHashCode_4 : cJ7_vectorizedHashCode.data.toList.drop 90 = dktJ7_vectorizedHashCode_4 := dk_seg dksJ7_vectorizedHashCode_3 24 rfl rfl
theorem dksJ7_vectorizedHashCode_5 : cJ7_vectorizedHashCode.data.toList.drop 113 = dktJ7_vectorizedHashCode_5 := dk_seg dksJ7_vectorizedHashCode_4 23 rfl rfl
theorem dksJ7_vectorizedHashCode_6 : cJ7_vectorizedHashCode.data.toList.drop 137 = dktJ7_vectorizedHashCode_6 := dk_seg dksJ7_vectorizedHashCode_5 24 rfl rfl
theorem dJ7_vectorizedHashCode_0 : decode cJ7_vectorizedHashCode 0 = .ok (.iload 4, 2) := dk_21 4 (dk_at dksJ7_vectorizedHashCode_0 0 rfl rfl)
theorem dJ7_vectorizedHashCode_2 : decode cJ7_vectorizedHashCode 2 = .ok (.tableswitch 127 4 10 #[42, 55, 127, 127, 88, 101, 114], 42) := by decide +kernel
theorem dJ7_vectorizedHashCode_44 : decode cJ7_vectorizedHashCode 44 = .ok (.iload_n 3, 1) := dk_29 (dk_at dksJ7_vectorizedHashCode_2 0 rfl rfl)
theorem dJ7_vectorizedHashCode_45 : decode cJ7_vectorizedHashCode 45 = .ok (.aload_n 0, 1) := dk_42 (dk_at dksJ7_vectorizedHashCode_2 1 rfl rfl)
theorem dJ7_vectorizedHashCode_46 : decode cJ7_vectorizedHashCode 46 = .ok (.checkcast 60, 3) := dk_192 0 60 (dk_at dksJ7_vectorizedHashCode_2 2 rfl rfl)
theorem dJ7_vectorizedHashCode_49 : decode cJ7_vectorizedHashCode 49 = .ok (.iload_n 1, 1) := dk_27 (dk_at dksJ7_vectorizedHashCode_2 5 rfl rfl)
theorem dJ7_vectorizedHashCode_50 : decode cJ7_vectorizedHashCode 50 = .ok (.iload_n 2, 1) := dk_28 (dk_at dksJ7_vectorizedHashCode_2 6 rfl rfl)
theorem dJ7_vectorizedHashCode_51 : decode cJ7_vectorizedHashCode 51 = .ok (.invokestatic 62, 3) := dk_184 0 62 (dk_at dksJ7_vectorizedHashCode_2 7 rfl rfl)
theorem dJ7_vectorizedHashCode_54 : decode cJ7_vectorizedHashCode 54 = .ok (.goto 103, 3) := dk_167 0 103 (dk_at dksJ7_vectorizedHashCode_2 10 rfl rfl)
theorem dJ7_vectorizedHashCode_57 : decode cJ7_vectorizedHashCode 57 = .ok (.aload_n 0, 1) := dk_42 (dk_at dksJ7_vectorizedHashCode_2 13 rfl rfl)
theorem dJ7_vectorizedHashCode_58 : decode cJ7_vectorizedHashCode 58 = .ok (.instanceof 60, 3) := dk_193 0 60 (dk_at dksJ7_vectorizedHashCode_2 14 rfl rfl)
theorem dJ7_vectorizedHashCode_61 : decode cJ7_vectorizedHashCode 61 = .ok (.ifCond .eq 16, 3) := dk_153 0 16 (dk_at dksJ7_vectorizedHashCode_2 17 rfl rfl)
theorem dJ7_vectorizedHashCode_64 : decode cJ7_vectorizedHashCode 64 = .ok (.iload_n 3, 1) := dk_29 (dk_at dksJ7_vectorizedHashCode_2 20 rfl rfl)
theorem dJ7_vectorizedHashCode_65 : decode cJ7_vectorizedHashCode 65 = .ok (.aload_n 0, 1) := dk_42 (dk_at dksJ7_vectorizedHashCode_2 21 rfl rfl)
theorem dJ7_vectorizedHashCode_66 : decode cJ7_vectorizedHashCode 66 = .ok (.checkcast 60, 3) := dk_192 0 60 (dk_at dksJ7_vectorizedHashCode_3 0 rfl rfl)
theorem dJ7_vectorizedHashCode_69 : decode cJ7_vectorizedHashCode 69 = .ok (.iload_n 1, 1) := dk_27 (dk_at dksJ7_vectorizedHashCode_3 3 rfl rfl)
theorem dJ7_vectorizedHashCode_70 : decode cJ7_vectorizedHashCode 70 = .ok (.iload_n 2, 1) := dk_28 (dk_at dksJ7_vectorizedHashCode_3 4 rfl rfl)
theorem dJ7_vectorizedHashCode_71 : decode cJ7_vectorizedHashCode 71 = .ok (.invokestatic 66, 3) := dk_184 0 66 (dk_at dksJ7_vectorizedHashCode_3 5 rfl rfl)
theorem dJ7_vectorizedHashCode_74 : decode cJ7_vectorizedHashCode 74 = .ok (.goto 83, 3) := dk_167 0 83 (dk_at dksJ7_vectorizedHashCode_3 8 rfl rfl)
theorem dJ7_vectorizedHashCode_77 : decode cJ7_vectorizedHashCode 77 = .ok (.iload_n 3, 1) := dk_29 (dk_at dksJ7_vectorizedHashCode_3 11 rfl rfl)
theorem dJ7_vectorizedHashCode_78 : decode cJ7_vectorizedHashCode 78 = .ok (.aload_n 0, 1) := dk_42 (dk_at dksJ7_vectorizedHashCode_3 12 rfl rfl)
theorem dJ7_vectorizedHashCode_79 : decode cJ7_vectorizedHashCode 79 = .ok (.checkcast 69, 3) := dk_192 0 69 (dk_at dksJ7_vectorizedHashCode_3 13 rfl rfl)
theorem dJ7_vectorizedHashCode_82 : decode cJ7_vectorizedHashCode 82 = .ok (.iload_n 1, 1) := dk_27 (dk_at dksJ7_vectorizedHashCode_3 16 rfl rfl)
theorem dJ7_vectorizedHashCode_83 : decode cJ7_vectorizedHashCode 83 = .ok (.iload_n 2, 1) := dk_28 (dk_at dksJ7_vectorizedHashCode_3 17 rfl rfl)
theorem dJ7_vectorizedHashCode_84 : decode cJ7_vectorizedHashCode 84 = .ok (.invokestatic 71, 3) := dk_184 0 71 (dk_at dksJ7_vectorizedHashCode_3 18 rfl rfl)
theorem dJ7_vectorizedHashCode_87 : decode cJ7_vectorizedHashCode 87 = .ok (.goto 70, 3) := dk_167 0 70 (dk_at dksJ7_vectorizedHashCode_3 21 rfl rfl)
theorem dJ7_vectorizedHashCode_90 : decode cJ7_vectorizedHashCode 90 = .ok (.iload_n 3, 1) := dk_29 (dk_at dksJ7_vectorizedHashCode_4 0 rfl rfl)
theorem dJ7_vectorizedHashCode_91 : decode cJ7_vectorizedHashCode 91 = .ok (.aload_n 0, 1) := dk_42 (dk_at dksJ7_vectorizedHashCode_4 1 rfl rfl)
theorem dJ7_vectorizedHashCode_92 : decode cJ7_vectorizedHashCode 92 = .ok (.checkcast 60, 3) := dk_192 0 60 (dk_at dksJ7_vectorizedHashCode_4 2 rfl rfl)
theorem dJ7_vectorizedHashCode_95 : decode cJ7_vectorizedHashCode 95 = .ok (.iload_n 1, 1) := dk_27 (dk_at dksJ7_vectorizedHashCode_4 5 rfl rfl)
theorem dJ7_vectorizedHashCode_96 : decode cJ7_vectorizedHashCode 96 = .ok (.iload_n 2, 1) := dk_28 (dk_at dksJ7_vectorizedHashCode_4 6 rfl rfl)
theorem dJ7_vectorizedHashCode_97 : decode cJ7_vectorizedHashCode 97 = .ok (.invokestatic 75, 3) := dk_184 0 75 (dk_at dksJ7_vectorizedHashCode_4 7 rfl rfl)
theorem dJ7_vectorizedHashCode_100 : decode cJ7_vectorizedHashCode 100 = .ok (.goto 57, 3) := dk_167 0 57 (dk_at dksJ7_vectorizedHashCode_4 10 rfl rfl)
theorem dJ7_vectorizedHashCode_103 : decode cJ7_vectorizedHashCode 103 = .ok (.iload_n 3, 1) := dk_29 (dk_at dksJ7_vectorizedHashCode_4 13 rfl rfl)
theorem dJ7_vectorizedHashCode_104 : decode cJ7_vectorizedHashCode 104 = .ok (.aload_n 0, 1) := dk_42 (dk_at dksJ7_vectorizedHashCode_4 14 rfl rfl)
theorem dJ7_vectorizedHashCode_105 : decode cJ7_vectorizedHashCode 105 = .ok (.checkcast 77, 3) := dk_192 0 77 (dk_at dksJ7_vectorizedHashCode_4 15 rfl rfl)
theorem dJ7_vectorizedHashCode_108 : decode cJ7_vectorizedHashCode 108 = .ok (.iload_n 1, 1) := dk_27 (dk_at dksJ7_vectorizedHashCode_4 18 rfl rfl)
theorem dJ7_vectorizedHashCode_109 : decode cJ7_vectorizedHashCode 109 = .ok (.iload_n 2, 1) := dk_28 (dk_at dksJ7_vectorizedHashCode_4 19 rfl rfl)
theorem dJ7_vectorizedHashCode_110 : decode cJ7_vectorizedHashCode 110 = .ok (.invokestatic 79, 3) := dk_184 0 79 (dk_at dksJ7_vectorizedHashCode_4 20 rfl rfl)
theorem dJ7_vectorizedHashCode_113 : decode cJ7_vectorizedHashCode 113 = .ok (.goto 44, 3) := dk_167 0 44 (dk_at dksJ7_vectorizedHashCode_5 0 rfl rfl)
theorem dJ7_vectorizedHashCode_116 : decode cJ7_vectorizedHashCode 116 = .ok (.iload_n 3, 1) := dk_29 (dk_at dksJ7_vectorizedHashCode_5 3 rfl rfl)
theorem dJ7_vectorizedHashCode_117 : decode cJ7_vectorizedHashCode 117 = .ok (.aload_n 0, 1) := dk_42 (dk_at dksJ7_vectorizedHashCode_5 4 rfl rfl)
theorem dJ7_vectorizedHashCode_118 : decode cJ7_vectorizedHashCode 118 = .ok (.checkcast 82, 3) := dk_192 0 82 (dk_at dksJ7_vectorizedHashCode_5 5 rfl rfl)
theorem dJ7_vectorizedHashCode_121 : decode cJ7_vectorizedHashCode 121 = .ok (.iload_n 1, 1) := dk_27 (dk_at dksJ7_vectorizedHashCode_5 8 rfl rfl)
theorem dJ7_vectorizedHashCode_122 : decode cJ7_vectorizedHashCode 122 = .ok (.iload_n 2, 1) := dk_28 (dk_at dksJ7_vectorizedHashCode_5 9 rfl rfl)
theorem dJ7_vectorizedHashCode_123 : decode cJ7_vectorizedHashCode 123 = .ok (.invokestatic 84, 3) := dk_184 0 84 (dk_at dksJ7_vectorizedHashCode_5 10 rfl rfl)
theorem dJ7_vectorizedHashCode_126 : decode cJ7_vectorizedHashCode 126 = .ok (.goto 31, 3) := dk_167 0 31 (dk_at dksJ7_vectorizedHashCode_5 13 rfl rfl)
theorem dJ7_vectorizedHashCode_129 : decode cJ7_vectorizedHashCode 129 = .ok (.new 87, 3) := dk_187 0 87 (dk_at dksJ7_vectorizedHashCode_5 16 rfl rfl)
theorem dJ7_vectorizedHashCode_132 : decode cJ7_vectorizedHashCode 132 = .ok (.dup, 1) := dk_89 (dk_at dksJ7_vectorizedHashCode_5 19 rfl rfl)
theorem dJ7_vectorizedHashCode_133 : decode cJ7_vectorizedHashCode 133 = .ok (.new 89, 3) := dk_187 0 89 (dk_at dksJ7_vectorizedHashCode_5 20 rfl rfl)
theorem dJ7_vectorizedHashCode_136 : decode cJ7_vectorizedHashCode 136 = .ok (.dup, 1) := dk_89 (dk_at dksJ7_vectorizedHashCode_5 23 rfl rfl)
theorem dJ7_vectorizedHashCode_137 : decode cJ7_vectorizedHashCode 137 = .ok (.invokespecial 91, 3) := dk_183 0 91 (dk_at dksJ7_vectorizedHashCode_6 0 rfl rfl)
theorem dJ7_vectorizedHashCode_140 : decode cJ7_vectorizedHashCode 140 = .ok (.ldc 92, 2) := dk_18 92 (dk_at dksJ7_vectorizedHashCode_6 3 rfl rfl)
theorem dJ7_vectorizedHashCode_142 : decode cJ7_vectorizedHashCode 142 = .ok (.invokevirtual 94, 3) := dk_182 0 94 (dk_at dksJ7_vectorizedHashCode_6 5 rfl rfl)
theorem dJ7_vectorizedHashCode_145 : decode cJ7_vectorizedHashCode 145 = .ok (.iload 4, 2) := dk_21 4 (dk_at dksJ7_vectorizedHashCode_6 8 rfl rfl)
theorem dJ7_vectorizedHashCode_147 : decode cJ7_vectorizedHashCode 147 = .ok (.invokevirtual 98, 3) := dk_182 0 98 (dk_at dksJ7_vectorizedHashCode_6 10 rfl rfl)
theorem dJ7_vectorizedHashCode_150 : decode cJ7_vectorizedHashCode 150 = .ok (.invokevirtual 101, 3) := dk_182 0 101 (dk_at dksJ7_vectorizedHashCode_6 13 rfl rfl)
theorem dJ7_vectorizedHashCode_153 : decode cJ7_vectorizedHashCode 153 = .ok (.invokespecial 105, 3) := dk_183 0 105 (dk_at dksJ7_vectorizedHashCode_6 16 rfl rfl)
theorem dJ7_vectorizedHashCode_156 : decode cJ7_vectorizedHashCode 156 = .ok (.athrow, 1) := dk_191 (dk_at dksJ7_vectorizedHashCode_6 19 rfl rfl)
theorem dJ7_vectorizedHashCode_157 : decode cJ7_vectorizedHashCode 157 = .ok (.ireturn, 1) := dk_172 (dk_at dksJ7_vectorizedHashCode_6 20 rfl rfl)
abbrev cJ7_signedHashCode : ByteArray := prog_32_method_5_code
def yJ7_signedHashCode : MethodName := ⟨RJ7, "signedHashCode", "(I[BII)I"⟩
def dkwJ7_signedHashCode_1 : List UInt8 := [17, 0, 255, 126, 96, 59, 132, 5, 1, 167, 255, 232, 26, 172]
abbrev dktJ7_signedHashCode_1 : List UInt8 := dkwJ7_signedHashCode_1 ++ []
def dkwJ7_signedHashCode_0 : List UInt8 := [28, 29, 96, 54, 4, 28, 54, 5, 21, 5, 21, 4, 162, 0, 23, 16, 31, 26, 104, 43, 21, 5, 51]
abbrev dktJ7_signedHashCode_0 : List UInt8 := dkwJ7_signedHashCode_0 ++ dktJ7_signedHashCode_1
theorem dksJ7_signedHashCode_0 : cJ7_signedHashCode.data.toList.drop 0 = dktJ7_signedHashCode_0 := by decide +kernel
theorem dksJ7_signedHashCode_1 : cJ7_signedHashCode.data.toList.drop 23 = dktJ7_signedHashCode_1 := dk_seg dksJ7_signedHashCode_0 23 rfl rfl
theorem dJ7_signedHashCode_0 : decode cJ7_signedHashCode 0 = .ok (.iload_n 2, 1) := dk_28 (dk_at dksJ7_signedHashCode_0 0 rfl rfl)
theorem dJ7_signedHashCode_1 : decode cJ7_signedHashCode 1 = .ok (.iload_n 3, 1) := dk_29 (dk_at dksJ7_signedHashCode_0 1 rfl rfl)
theorem dJ7_signedHashCode_2 : decode cJ7_signedHashCode 2 = .ok (.iadd, 1) := dk_96 (dk_at dksJ7_signedHashCode_0 2 rfl rfl)
theorem dJ7_signedHashCode_3 : decode cJ7_signedHashCode 3 = .ok (.istore 4, 2) := dk_54 4 (dk_at dksJ7_signedHashCode_0 3 rfl rfl)
theorem dJ7_signedHashCode_5 : decode cJ7_signedHashCode 5 = .ok (.iload_n 2, 1) := dk_28 (dk_at dksJ7_signedHashCode_0 5 rfl rfl)
theorem dJ7_signedHashCode_6 : decode cJ7_signedHashCode 6 = .ok (.istore 5, 2) := dk_54 5 (dk_at dksJ7_signedHashCode_0 6 rfl rfl)
theorem dJ7_signedHashCode_8 : decode cJ7_signedHashCode 8 = .ok (.iload 5, 2) := dk_21 5 (dk_at dksJ7_signedHashCode_0 8 rfl rfl)
theorem dJ7_signedHashCode_10 : decode cJ7_signedHashCode 10 = .ok (.iload 4, 2) := dk_21 4 (dk_at dksJ7_signedHashCode_0 10 rfl rfl)
theorem dJ7_signedHashCode_12 : decode cJ7_signedHashCode 12 = .ok (.if_icmp .ge 23, 3) := dk_162 0 23 (dk_at dksJ7_signedHashCode_0 12 rfl rfl)
theorem dJ7_signedHashCode_15 : decode cJ7_signedHashCode 15 = .ok (.bipush 31, 2) := dk_16 31 (dk_at dksJ7_signedHashCode_0 15 rfl rfl)
theorem dJ7_signedHashCode_17 : decode cJ7_signedHashCode 17 = .ok (.iload_n 0, 1) := dk_26 (dk_at dksJ7_signedHashCode_0 17 rfl rfl)
theorem dJ7_signedHashCode_18 : decode cJ7_signedHashCode 18 = .ok (.imul, 1) := dk_104 (dk_at dksJ7_signedHashCode_0 18 rfl rfl)
theorem dJ7_signedHashCode_19 : decode cJ7_signedHashCode 19 = .ok (.aload_n 1, 1) := dk_43 (dk_at dksJ7_signedHashCode_0 19 rfl rfl)
theorem dJ7_signedHashCode_20 : decode cJ7_signedHashCode 20 = .ok (.iload 5, 2) := dk_21 5 (dk_at dksJ7_signedHashCode_0 20 rfl rfl)
theorem dJ7_signedHashCode_22 : decode cJ7_signedHashCode 22 = .ok (.baload, 1) := dk_51 (dk_at dksJ7_signedHashCode_0 22 rfl rfl)
theorem dJ7_signedHashCode_23 : decode cJ7_signedHashCode 23 = .ok (.sipush 255, 3) := dk_17 0 255 (dk_at dksJ7_signedHashCode_1 0 rfl rfl)
theorem dJ7_signedHashCode_26 : decode cJ7_signedHashCode 26 = .ok (.iand, 1) := dk_126 (dk_at dksJ7_signedHashCode_1 3 rfl rfl)
theorem dJ7_signedHashCode_27 : decode cJ7_signedHashCode 27 = .ok (.iadd, 1) := dk_96 (dk_at dksJ7_signedHashCode_1 4 rfl rfl)
theorem dJ7_signedHashCode_28 : decode cJ7_signedHashCode 28 = .ok (.istore_n 0, 1) := dk_59 (dk_at dksJ7_signedHashCode_1 5 rfl rfl)
theorem dJ7_signedHashCode_29 : decode cJ7_signedHashCode 29 = .ok (.iinc 5 1, 3) := dk_132 5 1 (dk_at dksJ7_signedHashCode_1 6 rfl rfl)
theorem dJ7_signedHashCode_32 : decode cJ7_signedHashCode 32 = .ok (.goto (-24), 3) := dk_167 255 232 (dk_at dksJ7_signedHashCode_1 9 rfl rfl)
theorem dJ7_signedHashCode_35 : decode cJ7_signedHashCode 35 = .ok (.iload_n 0, 1) := dk_26 (dk_at dksJ7_signedHashCode_1 12 rfl rfl)
theorem dJ7_signedHashCode_36 : decode cJ7_signedHashCode 36 = .ok (.ireturn, 1) := dk_172 (dk_at dksJ7_signedHashCode_1 13 rfl rfl)
abbrev cJ7_utf16hashCode : ByteArray := prog_32_method_10_code
def yJ7_utf16hashCode : MethodName := ⟨RJ7, "utf16hashCode", "(I[BII)I"⟩
def dkwJ7_utf16hashCode_1 : List UInt8 := [21, 5, 185, 0, 110, 3, 0, 96, 59, 132, 5, 1, 167, 255, 229, 26, 172]
abbrev dktJ7_utf16hashCode_1 : List UInt8 := dkwJ7_utf16hashCode_1 ++ []
def dkwJ7_utf16hashCode_0 : List UInt8 := [28, 29, 96, 54, 4, 28, 54, 5, 21, 5, 21, 4, 162, 0, 26, 16, 31, 26, 104, 178, 0, 106, 43]
abbrev dktJ7_utf16hashCode_0 : List UInt8 := dkwJ7_utf16hashCode_0 ++ dktJ7_utf16hashCode_1
theorem dksJ7_utf16hashCode_0 : cJ7_utf16hashCode.data.toList.drop 0 = dktJ7_utf16hashCode_0 := by decide +kernel
theorem dksJ7_utf16hashCode_1 : cJ7_utf16hashCode.data.toList.drop 23 = dktJ7_utf16hashCode_1 := dk_seg dksJ7_utf16hashCode_0 23 rfl rfl
theorem dJ7_utf16hashCode_0 : decode cJ7_utf16hashCode 0 = .ok (.iload_n 2, 1) := dk_28 (dk_at dksJ7_utf16hashCode_0 0 rfl rfl)
theorem dJ7_utf16hashCode_1 : decode cJ7_utf16hashCode 1 = .ok (.iload_n 3, 1) := dk_29 (dk_at dksJ7_utf16hashCode_0 1 rfl rfl)
theorem dJ7_utf16hashCode_2 : decode cJ7_utf16hashCode 2 = .ok (.iadd, 1) := dk_96 (dk_at dksJ7_utf16hashCode_0 2 rfl rfl)
theorem dJ7_utf16hashCode_3 : decode cJ7_utf16hashCode 3 = .ok (.istore 4, 2) := dk_54 4 (dk_at dksJ7_utf16hashCode_0 3 rfl rfl)
theorem dJ7_utf16hashCode_5 : decode cJ7_utf16hashCode 5 = .ok (.iload_n 2, 1) := dk_28 (dk_at dksJ7_utf16hashCode_0 5 rfl rfl)
theorem dJ7_utf16hashCode_6 : decode cJ7_utf16hashCode 6 = .ok (.istore 5, 2) := dk_54 5 (dk_at dksJ7_utf16hashCode_0 6 rfl rfl)
theorem dJ7_utf16hashCode_8 : decode cJ7_utf16hashCode 8 = .ok (.iload 5, 2) := dk_21 5 (dk_at dksJ7_utf16hashCode_0 8 rfl rfl)
theorem dJ7_utf16hashCode_10 : decode cJ7_utf16hashCode 10 = .ok (.iload 4, 2) := dk_21 4 (dk_at dksJ7_utf16hashCode_0 10 rfl rfl)
theorem dJ7_utf16hashCode_12 : decode cJ7_utf16hashCode 12 = .ok (.if_icmp .ge 26, 3) := dk_162 0 26 (dk_at dksJ7_utf16hashCode_0 12 rfl rfl)
theorem dJ7_utf16hashCode_15 : decode cJ7_utf16hashCode 15 = .ok (.bipush 31, 2) := dk_16 31 (dk_at dksJ7_utf16hashCode_0 15 rfl rfl)
theorem dJ7_utf16hashCode_17 : decode cJ7_utf16hashCode 17 = .ok (.iload_n 0, 1) := dk_26 (dk_at dksJ7_utf16hashCode_0 17 rfl rfl)
theorem dJ7_utf16hashCode_18 : decode cJ7_utf16hashCode 18 = .ok (.imul, 1) := dk_104 (dk_at dksJ7_utf16hashCode_0 18 rfl rfl)
theorem dJ7_utf16hashCode_19 : decode cJ7_utf16hashCode 19 = .ok (.getstatic 106, 3) := dk_178 0 106 (dk_at dksJ7_utf16hashCode_0 19 rfl rfl)
theorem dJ7_utf16hashCode_22 : decode cJ7_utf16hashCode 22 = .ok (.aload_n 1, 1) := dk_43 (dk_at dksJ7_utf16hashCode_0 22 rfl rfl)
theorem dJ7_utf16hashCode_23 : decode cJ7_utf16hashCode 23 = .ok (.iload 5, 2) := dk_21 5 (dk_at dksJ7_utf16hashCode_1 0 rfl rfl)
theorem dJ7_utf16hashCode_25 : decode cJ7_utf16hashCode 25 = .ok (.invokeinterface 110 3, 5) := by decide +kernel
theorem dJ7_utf16hashCode_30 : decode cJ7_utf16hashCode 30 = .ok (.iadd, 1) := dk_96 (dk_at dksJ7_utf16hashCode_1 7 rfl rfl)
theorem dJ7_utf16hashCode_31 : decode cJ7_utf16hashCode 31 = .ok (.istore_n 0, 1) := dk_59 (dk_at dksJ7_utf16hashCode_1 8 rfl rfl)
theorem dJ7_utf16hashCode_32 : decode cJ7_utf16hashCode 32 = .ok (.iinc 5 1, 3) := dk_132 5 1 (dk_at dksJ7_utf16hashCode_1 9 rfl rfl)
theorem dJ7_utf16hashCode_35 : decode cJ7_utf16hashCode 35 = .ok (.goto (-27), 3) := dk_167 255 229 (dk_at dksJ7_utf16hashCode_1 12 rfl rfl)
theorem dJ7_utf16hashCode_38 : decode cJ7_utf16hashCode 38 = .ok (.iload_n 0, 1) := dk_26 (dk_at dksJ7_utf16hashCode_1 15 rfl rfl)
theorem dJ7_utf16hashCode_39 : decode cJ7_utf16hashCode 39 = .ok (.ireturn, 1) := dk_172 (dk_at dksJ7_utf16hashCode_1 16 rfl rfl)
abbrev cJ7_hashCode : ByteArray := prog_32_method_7_code
def yJ7_hashCode : MethodName := ⟨RJ7, "hashCode", "(I[CII)I"⟩
def dkwJ7_hashCode_1 : List UInt8 := [59, 132, 5, 1, 167, 255, 236, 26, 172]
abbrev dktJ7_hashCode_1 : List UInt8 := dkwJ7_hashCode_1 ++ []
def dkwJ7_hashCode_0 : List UInt8 := [28, 29, 96, 54, 4, 28, 54, 5, 21, 5, 21, 4, 162, 0, 19, 16, 31, 26, 104, 43, 21, 5, 52, 96]
abbrev dktJ7_hashCode_0 : List UInt8 := dkwJ7_hashCode_0 ++ dktJ7_hashCode_1
theorem dksJ7_hashCode_0 : cJ7_hashCode.data.toList.drop 0 = dktJ7_hashCode_0 := by decide +kernel
theorem dksJ7_hashCode_1 : cJ7_hashCode.data.toList.drop 24 = dktJ7_hashCode_1 := dk_seg dksJ7_hashCode_0 24 rfl rfl
theorem dJ7_hashCode_0 : decode cJ7_hashCode 0 = .ok (.iload_n 2, 1) := dk_28 (dk_at dksJ7_hashCode_0 0 rfl rfl)
theorem dJ7_hashCode_1 : decode cJ7_hashCode 1 = .ok (.iload_n 3, 1) := dk_29 (dk_at dksJ7_hashCode_0 1 rfl rfl)
theorem dJ7_hashCode_2 : decode cJ7_hashCode 2 = .ok (.iadd, 1) := dk_96 (dk_at dksJ7_hashCode_0 2 rfl rfl)
theorem dJ7_hashCode_3 : decode cJ7_hashCode 3 = .ok (.istore 4, 2) := dk_54 4 (dk_at dksJ7_hashCode_0 3 rfl rfl)
theorem dJ7_hashCode_5 : decode cJ7_hashCode 5 = .ok (.iload_n 2, 1) := dk_28 (dk_at dksJ7_hashCode_0 5 rfl rfl)
theorem dJ7_hashCode_6 : decode cJ7_hashCode 6 = .ok (.istore 5, 2) := dk_54 5 (dk_at dksJ7_hashCode_0 6 rfl rfl)
theorem dJ7_hashCode_8 : decode cJ7_hashCode 8 = .ok (.iload 5, 2) := dk_21 5 (dk_at dksJ7_hashCode_0 8 rfl rfl)
theorem dJ7_hashCode_10 : decode cJ7_hashCode 10 = .ok (.iload 4, 2) := dk_21 4 (dk_at dksJ7_hashCode_0 10 rfl rfl)
theorem dJ7_hashCode_12 : decode cJ7_hashCode 12 = .ok (.if_icmp .ge 19, 3) := dk_162 0 19 (dk_at dksJ7_hashCode_0 12 rfl rfl)
theorem dJ7_hashCode_15 : decode cJ7_hashCode 15 = .ok (.bipush 31, 2) := dk_16 31 (dk_at dksJ7_hashCode_0 15 rfl rfl)
theorem dJ7_hashCode_17 : decode cJ7_hashCode 17 = .ok (.iload_n 0, 1) := dk_26 (dk_at dksJ7_hashCode_0 17 rfl rfl)
theorem dJ7_hashCode_18 : decode cJ7_hashCode 18 = .ok (.imul, 1) := dk_104 (dk_at dksJ7_hashCode_0 18 rfl rfl)
theorem dJ7_hashCode_19 : decode cJ7_hashCode 19 = .ok (.aload_n 1, 1) := dk_43 (dk_at dksJ7_hashCode_0 19 rfl rfl)
theorem dJ7_hashCode_20 : decode cJ7_hashCode 20 = .ok (.iload 5, 2) := dk_21 5 (dk_at dksJ7_hashCode_0 20 rfl rfl)
theorem dJ7_hashCode_22 : decode cJ7_hashCode 22 = .ok (.caload, 1) := dk_52 (dk_at dksJ7_hashCode_0 22 rfl rfl)
theorem dJ7_hashCode_23 : decode cJ7_hashCode 23 = .ok (.iadd, 1) := dk_96 (dk_at dksJ7_hashCode_0 23 rfl rfl)
theorem dJ7_hashCode_24 : decode cJ7_hashCode 24 = .ok (.istore_n 0, 1) := dk_59 (dk_at dksJ7_hashCode_1 0 rfl rfl)
theorem dJ7_hashCode_25 : decode cJ7_hashCode 25 = .ok (.iinc 5 1, 3) := dk_132 5 1 (dk_at dksJ7_hashCode_1 1 rfl rfl)
theorem dJ7_hashCode_28 : decode cJ7_hashCode 28 = .ok (.goto (-20), 3) := dk_167 255 236 (dk_at dksJ7_hashCode_1 4 rfl rfl)
theorem dJ7_hashCode_31 : decode cJ7_hashCode 31 = .ok (.iload_n 0, 1) := dk_26 (dk_at dksJ7_hashCode_1 7 rfl rfl)
theorem dJ7_hashCode_32 : decode cJ7_hashCode 32 = .ok (.ireturn, 1) := dk_172 (dk_at dksJ7_hashCode_1 8 rfl rfl)
abbrev cJ7_hashCode_2 : ByteArray := prog_32_method_6_code
def yJ7_hashCode_2 : MethodName := ⟨RJ7, "hashCode", "(I[BII)I"⟩
def dkwJ7_hashCode_2_1 : List UInt8 := [59, 132, 5, 1, 167, 255, 236, 26, 172]
abbrev dktJ7_hashCode_2_1 : List UInt8 := dkwJ7_hashCode_2_1 ++ []
def dkwJ7_hashCode_2_0 : List UInt8 := [28, 29, 96, 54, 4, 28, 54, 5, 21, 5, 21, 4, 162, 0, 19, 16, 31, 26, 104, 43, 21, 5, 51, 96]
abbrev dktJ7_hashCode_2_0 : List UInt8 := dkwJ7_hashCode_2_0 ++ dktJ7_hashCode_2_1
theorem dksJ7_hashCode_2_0 : cJ7_hashCode_2.data.toList.drop 0 = dktJ7_hashCode_2_0 := by decide +kernel
theorem dksJ7_hashCode_2_1 : cJ7_hashCode_2.data.toList.drop 24 = dktJ7_hashCode_2_1 := dk_seg dksJ7_hashCode_2_0 24 rfl rfl
theorem dJ7_hashCode_2_0 : decode cJ7_hashCode_2 0 = .ok (.iload_n 2, 1) := dk_28 (dk_at dksJ7_hashCode_2_0 0 rfl rfl)
theorem dJ7_hashCode_2_1 : decode cJ7_hashCode_2 1 = .ok (.iload_n 3, 1) := dk_29 (dk_at dksJ7_hashCode_2_0 1 rfl rfl)
theorem dJ7_hashCode_2_2 : decode cJ7_hashCode_2 2 = .ok (.iadd, 1) := dk_96 (dk_at dksJ7_hashCode_2_0 2 rfl rfl)
theorem dJ7_hashCode_2_3 : decode cJ7_hashCode_2 3 = .ok (.istore 4, 2) := dk_54 4 (dk_at dksJ7_hashCode_2_0 3 rfl rfl)
theorem dJ7_hashCode_2_5 : decode cJ7_hashCode_2 5 = .ok (.iload_n 2, 1) := dk_28 (dk_at dksJ7_hashCode_2_0 5 rfl rfl)
theorem dJ7_hashCode_2_6 : decode cJ7_hashCode_2 6 = .ok (.istore 5, 2) := dk_54 5 (dk_at dksJ7_hashCode_2_0 6 rfl rfl)
theorem dJ7_hashCode_2_8 : decode cJ7_hashCode_2 8 = .ok (.iload 5, 2) := dk_21 5 (dk_at dksJ7_hashCode_2_0 8 rfl rfl)
theorem dJ7_hashCode_2_10 : decode cJ7_hashCode_2 10 = .ok (.iload 4, 2) := dk_21 4 (dk_at dksJ7_hashCode_2_0 10 rfl rfl)
theorem dJ7_hashCode_2_12 : decode cJ7_hashCode_2 12 = .ok (.if_icmp .ge 19, 3) := dk_162 0 19 (dk_at dksJ7_hashCode_2_0 12 rfl rfl)
theorem dJ7_hashCode_2_15 : decode cJ7_hashCode_2 15 = .ok (.bipush 31, 2) := dk_16 31 (dk_at dksJ7_hashCode_2_0 15 rfl rfl)
theorem dJ7_hashCode_2_17 : decode cJ7_hashCode_2 17 = .ok (.iload_n 0, 1) := dk_26 (dk_at dksJ7_hashCode_2_0 17 rfl rfl)
theorem dJ7_hashCode_2_18 : decode cJ7_hashCode_2 18 = .ok (.imul, 1) := dk_104 (dk_at dksJ7_hashCode_2_0 18 rfl rfl)
theorem dJ7_hashCode_2_19 : decode cJ7_hashCode_2 19 = .ok (.aload_n 1, 1) := dk_43 (dk_at dksJ7_hashCode_2_0 19 rfl rfl)
theorem dJ7_hashCode_2_20 : decode cJ7_hashCode_2 20 = .ok (.iload 5, 2) := dk_21 5 (dk_at dksJ7_hashCode_2_0 20 rfl rfl)
theorem dJ7_hashCode_2_22 : decode cJ7_hashCode_2 22 = .ok (.baload, 1) := dk_51 (dk_at dksJ7_hashCode_2_0 22 rfl rfl)
theorem dJ7_hashCode_2_23 : decode cJ7_hashCode_2 23 = .ok (.iadd, 1) := dk_96 (dk_at dksJ7_hashCode_2_0 23 rfl rfl)
theorem dJ7_hashCode_2_24 : decode cJ7_hashCode_2 24 = .ok (.istore_n 0, 1) := dk_59 (dk_at dksJ7_hashCode_2_1 0 rfl rfl)
theorem dJ7_hashCode_2_25 : decode cJ7_hashCode_2 25 = .ok (.iinc 5 1, 3) := dk_132 5 1 (dk_at dksJ7_hashCode_2_1 1 rfl rfl)
theorem dJ7_hashCode_2_28 : decode cJ7_hashCode_2 28 = .ok (.goto (-20), 3) := dk_167 255 236 (dk_at dksJ7_hashCode_2_1 4 rfl rfl)
theorem dJ7_hashCode_2_31 : decode cJ7_hashCode_2 31 = .ok (.iload_n 0, 1) := dk_26 (dk_at dksJ7_hashCode_2_1 7 rfl rfl)
theorem dJ7_hashCode_2_32 : decode cJ7_hashCode_2 32 = .ok (.ireturn, 1) := dk_172 (dk_at dksJ7_hashCode_2_1 8 rfl rfl)
abbrev cJ7_hashCode_3 : ByteArray := prog_32_method_8_code
def yJ7_hashCode_3 : MethodName := ⟨RJ7, "hashCode", "(I[SII)I"⟩
def dkwJ7_hashCode_3_1 : List UInt8 := [59, 132, 5, 1, 167, 255, 236, 26, 172]
abbrev dktJ7_hashCode_3_1 : List UInt8 := dkwJ7_hashCode_3_1 ++ []
def dkwJ7_hashCode_3_0 : List UInt8 := [28, 29, 96, 54, 4, 28, 54, 5, 21, 5, 21, 4, 162, 0, 19, 16, 31, 26, 104, 43, 21, 5, 53, 96]
abbrev dktJ7_hashCode_3_0 : List UInt8 := dkwJ7_hashCode_3_0 ++ dktJ7_hashCode_3_1
theorem dksJ7_hashCode_3_0 : cJ7_hashCode_3.data.toList.drop 0 = dktJ7_hashCode_3_0 := by decide +kernel
theorem dksJ7_hashCode_3_1 : cJ7_hashCode_3.data.toList.drop 24 = dktJ7_hashCode_3_1 := dk_seg dksJ7_hashCode_3_0 24 rfl rfl
theorem dJ7_hashCode_3_0 : decode cJ7_hashCode_3 0 = .ok (.iload_n 2, 1) := dk_28 (dk_at dksJ7_hashCode_3_0 0 rfl rfl)
theorem dJ7_hashCode_3_1 : decode cJ7_hashCode_3 1 = .ok (.iload_n 3, 1) := dk_29 (dk_at dksJ7_hashCode_3_0 1 rfl rfl)
theorem dJ7_hashCode_3_2 : decode cJ7_hashCode_3 2 = .ok (.iadd, 1) := dk_96 (dk_at dksJ7_hashCode_3_0 2 rfl rfl)
theorem dJ7_hashCode_3_3 : decode cJ7_hashCode_3 3 = .ok (.istore 4, 2) := dk_54 4 (dk_at dksJ7_hashCode_3_0 3 rfl rfl)
theorem dJ7_hashCode_3_5 : decode cJ7_hashCode_3 5 = .ok (.iload_n 2, 1) := dk_28 (dk_at dksJ7_hashCode_3_0 5 rfl rfl)
theorem dJ7_hashCode_3_6 : decode cJ7_hashCode_3 6 = .ok (.istore 5, 2) := dk_54 5 (dk_at dksJ7_hashCode_3_0 6 rfl rfl)
theorem dJ7_hashCode_3_8 : decode cJ7_hashCode_3 8 = .ok (.iload 5, 2) := dk_21 5 (dk_at dksJ7_hashCode_3_0 8 rfl rfl)
theorem dJ7_hashCode_3_10 : decode cJ7_hashCode_3 10 = .ok (.iload 4, 2) := dk_21 4 (dk_at dksJ7_hashCode_3_0 10 rfl rfl)
theorem dJ7_hashCode_3_12 : decode cJ7_hashCode_3 12 = .ok (.if_icmp .ge 19, 3) := dk_162 0 19 (dk_at dksJ7_hashCode_3_0 12 rfl rfl)
theorem dJ7_hashCode_3_15 : decode cJ7_hashCode_3 15 = .ok (.bipush 31, 2) := dk_16 31 (dk_at dksJ7_hashCode_3_0 15 rfl rfl)
theorem dJ7_hashCode_3_17 : decode cJ7_hashCode_3 17 = .ok (.iload_n 0, 1) := dk_26 (dk_at dksJ7_hashCode_3_0 17 rfl rfl)
theorem dJ7_hashCode_3_18 : decode cJ7_hashCode_3 18 = .ok (.imul, 1) := dk_104 (dk_at dksJ7_hashCode_3_0 18 rfl rfl)
theorem dJ7_hashCode_3_19 : decode cJ7_hashCode_3 19 = .ok (.aload_n 1, 1) := dk_43 (dk_at dksJ7_hashCode_3_0 19 rfl rfl)
theorem dJ7_hashCode_3_20 : decode cJ7_hashCode_3 20 = .ok (.iload 5, 2) := dk_21 5 (dk_at dksJ7_hashCode_3_0 20 rfl rfl)
theorem dJ7_hashCode_3_22 : decode cJ7_hashCode_3 22 = .ok (.saload, 1) := dk_53 (dk_at dksJ7_hashCode_3_0 22 rfl rfl)
theorem dJ7_hashCode_3_23 : decode cJ7_hashCode_3 23 = .ok (.iadd, 1) := dk_96 (dk_at dksJ7_hashCode_3_0 23 rfl rfl)
theorem dJ7_hashCode_3_24 : decode cJ7_hashCode_3 24 = .ok (.istore_n 0, 1) := dk_59 (dk_at dksJ7_hashCode_3_1 0 rfl rfl)
theorem dJ7_hashCode_3_25 : decode cJ7_hashCode_3 25 = .ok (.iinc 5 1, 3) := dk_132 5 1 (dk_at dksJ7_hashCode_3_1 1 rfl rfl)
theorem dJ7_hashCode_3_28 : decode cJ7_hashCode_3 28 = .ok (.goto (-20), 3) := dk_167 255 236 (dk_at dksJ7_hashCode_3_1 4 rfl rfl)
theorem dJ7_hashCode_3_31 : decode cJ7_hashCode_3 31 = .ok (.iload_n 0, 1) := dk_26 (dk_at dksJ7_hashCode_3_1 7 rfl rfl)
theorem dJ7_hashCode_3_32 : decode cJ7_hashCode_3 32 = .ok (.ireturn, 1) := dk_172 (dk_at dksJ7_hashCode_3_1 8 rfl rfl)
abbrev cJ7_hashCode_4 : ByteArray := prog_32_method_9_code
def yJ7_hashCode_4 : MethodName := ⟨RJ7, "hashCode", "(I[III)I"⟩
def dkwJ7_hashCode_4_1 : List UInt8 := [59, 132, 5, 1, 167, 255, 236, 26, 172]
abbrev dktJ7_hashCode_4_1 : List UInt8 := dkwJ7_hashCode_4_1 ++ []
def dkwJ7_hashCode_4_0 : List UInt8 := [28, 29, 96, 54, 4, 28, 54, 5, 21, 5, 21, 4, 162, 0, 19, 16, 31, 26, 104, 43, 21, 5, 46, 96]
abbrev dktJ7_hashCode_4_0 : List UInt8 := dkwJ7_hashCode_4_0 ++ dktJ7_hashCode_4_1
theorem dksJ7_hashCode_4_0 : cJ7_hashCode_4.data.toList.drop 0 = dktJ7_hashCode_4_0 := by decide +kernel
theorem dksJ7_hashCode_4_1 : cJ7_hashCode_4.data.toList.drop 24 = dktJ7_hashCode_4_1 := dk_seg dksJ7_hashCode_4_0 24 rfl rfl
theorem dJ7_hashCode_4_0 : decode cJ7_hashCode_4 0 = .ok (.iload_n 2, 1) := dk_28 (dk_at dksJ7_hashCode_4_0 0 rfl rfl)
theorem dJ7_hashCode_4_1 : decode cJ7_hashCode_4 1 = .ok (.iload_n 3, 1) := dk_29 (dk_at dksJ7_hashCode_4_0 1 rfl rfl)
theorem dJ7_hashCode_4_2 : decode cJ7_hashCode_4 2 = .ok (.iadd, 1) := dk_96 (dk_at dksJ7_hashCode_4_0 2 rfl rfl)
theorem dJ7_hashCode_4_3 : decode cJ7_hashCode_4 3 = .ok (.istore 4, 2) := dk_54 4 (dk_at dksJ7_hashCode_4_0 3 rfl rfl)
theorem dJ7_hashCode_4_5 : decode cJ7_hashCode_4 5 = .ok (.iload_n 2, 1) := dk_28 (dk_at dksJ7_hashCode_4_0 5 rfl rfl)
theorem dJ7_hashCode_4_6 : decode cJ7_hashCode_4 6 = .ok (.istore 5, 2) := dk_54 5 (dk_at dksJ7_hashCode_4_0 6 rfl rfl)
theorem dJ7_hashCode_4_8 : decode cJ7_hashCode_4 8 = .ok (.iload 5, 2) := dk_21 5 (dk_at dksJ7_hashCode_4_0 8 rfl rfl)
theorem dJ7_hashCode_4_10 : decode cJ7_hashCode_4 10 = .ok (.iload 4, 2) := dk_21 4 (dk_at dksJ7_hashCode_4_0 10 rfl rfl)
theorem dJ7_hashCode_4_12 : decode cJ7_hashCode_4 12 = .ok (.if_icmp .ge 19, 3) := dk_162 0 19 (dk_at dksJ7_hashCode_4_0 12 rfl rfl)
theorem dJ7_hashCode_4_15 : decode cJ7_hashCode_4 15 = .ok (.bipush 31, 2) := dk_16 31 (dk_at dksJ7_hashCode_4_0 15 rfl rfl)
theorem dJ7_hashCode_4_17 : decode cJ7_hashCode_4 17 = .ok (.iload_n 0, 1) := dk_26 (dk_at dksJ7_hashCode_4_0 17 rfl rfl)
theorem dJ7_hashCode_4_18 : decode cJ7_hashCode_4 18 = .ok (.imul, 1) := dk_104 (dk_at dksJ7_hashCode_4_0 18 rfl rfl)
theorem dJ7_hashCode_4_19 : decode cJ7_hashCode_4 19 = .ok (.aload_n 1, 1) := dk_43 (dk_at dksJ7_hashCode_4_0 19 rfl rfl)
theorem dJ7_hashCode_4_20 : decode cJ7_hashCode_4 20 = .ok (.iload 5, 2) := dk_21 5 (dk_at dksJ7_hashCode_4_0 20 rfl rfl)
theorem dJ7_hashCode_4_22 : decode cJ7_hashCode_4 22 = .ok (.iaload, 1) := dk_46 (dk_at dksJ7_hashCode_4_0 22 rfl rfl)
theorem dJ7_hashCode_4_23 : decode cJ7_hashCode_4 23 = .ok (.iadd, 1) := dk_96 (dk_at dksJ7_hashCode_4_0 23 rfl rfl)
theorem dJ7_hashCode_4_24 : decode cJ7_hashCode_4 24 = .ok (.istore_n 0, 1) := dk_59 (dk_at dksJ7_hashCode_4_1 0 rfl rfl)
theorem dJ7_hashCode_4_25 : decode cJ7_hashCode_4 25 = .ok (.iinc 5 1, 3) := dk_132 5 1 (dk_at dksJ7_hashCode_4_1 1 rfl rfl)
theorem dJ7_hashCode_4_28 : decode cJ7_hashCode_4 28 = .ok (.goto (-20), 3) := dk_167 255 236 (dk_at dksJ7_hashCode_4_1 4 rfl rfl)
theorem dJ7_hashCode_4_31 : decode cJ7_hashCode_4 31 = .ok (.iload_n 0, 1) := dk_26 (dk_at dksJ7_hashCode_4_1 7 rfl rfl)
theorem dJ7_hashCode_4_32 : decode cJ7_hashCode_4 32 = .ok (.ireturn, 1) := dk_172 (dk_at dksJ7_hashCode_4_1 8 rfl rfl)
theorem q99 : (Jvm.Cond.initialized "jdk/internal/util/ArraysSupport") ∈ lw_all := lw_g (lw_at lw_m1 17 rfl) rfl
theorem q685 : (Jvm.Cond.static ({ cls := "jdk/internal/util/ArraysSupport", name := "vectorizedHashCode", desc := "(Ljava/lang/Object;IIII)I" } : Jvm.MethodName)) ∈ lw_all := lw_g (lw_at lw_m3 123 rfl) rfl
theorem q686 : (Jvm.Cond.code ({ cls := "jdk/internal/util/ArraysSupport", name := "vectorizedHashCode", desc := "(Ljava/lang/Object;IIII)I" } : Jvm.MethodName) prog_32_method_4_code (5 : Nat) (Option.some Jvm.ClassFile.FieldType.int)) ∈ lw_all := lw_g (lw_at lw_m3 124 rfl) rfl
theorem q687 : (Jvm.Cond.classLink "jdk/internal/util/ArraysSupport" (60 : Nat) "[B") ∈ lw_all := lw_g (lw_at lw_m3 125 rfl) rfl
theorem q688 : (Jvm.Cond.methodLink "jdk/internal/util/ArraysSupport" (62 : Nat) ({ cls := "jdk/internal/util/ArraysSupport", name := "signedHashCode", desc := "(I[BII)I" } : Jvm.MethodName)) ∈ lw_all := lw_g (lw_at lw_m3 126 rfl) rfl
theorem q689 : (Jvm.Cond.static ({ cls := "jdk/internal/util/ArraysSupport", name := "signedHashCode", desc := "(I[BII)I" } : Jvm.MethodName)) ∈ lw_all := lw_g (lw_at lw_m3 127 rfl) rfl
theorem q690 : (Jvm.Cond.code ({ cls := "jdk/internal/util/ArraysSupport", name := "signedHashCode", desc := "(I[BII)I" } : Jvm.MethodName) prog_32_method_5_code (6 : Nat) (Option.some Jvm.ClassFile.FieldType.int)) ∈ lw_all := lw_g (lw_at lw_m3 128 rfl) rfl
theorem q691 : (Jvm.Cond.methodLink "jdk/internal/util/ArraysSupport" (66 : Nat) ({ cls := "jdk/internal/util/ArraysSupport", name := "utf16hashCode", desc := "(I[BII)I" } : Jvm.MethodName)) ∈ lw_all := lw_g (lw_at lw_m3 129 rfl) rfl
theorem q692 : (Jvm.Cond.static ({ cls := "jdk/internal/util/ArraysSupport", name := "utf16hashCode", desc := "(I[BII)I" } : Jvm.MethodName)) ∈ lw_all := lw_g (lw_at lw_m3 130 rfl) rfl
theorem q693 : (Jvm.Cond.code ({ cls := "jdk/internal/util/ArraysSupport", name := "utf16hashCode", desc := "(I[BII)I" } : Jvm.MethodName) prog_32_method_10_code (6 : Nat) (Option.some Jvm.ClassFile.FieldType.int)) ∈ lw_all := lw_g (lw_at lw_m3 131 rfl) rfl
theorem q694 : (Jvm.Cond.fieldLink "jdk/internal/util/ArraysSupport" (106 : Nat) "jdk/internal/util/ArraysSupport" "JLA" "Ljdk/internal/access/JavaLangAccess;") ∈ lw_all := lw_g (lw_at lw_m3 132 rfl) rfl
theorem q695 : (Jvm.Cond.laysStatic "jdk/internal/util/ArraysSupport" "JLA" "Ljdk/internal/access/JavaLangAccess;") ∈ lw_tbl := lw_at lw_m3 133 rfl
theorem q696 : (Jvm.Cond.interfaceEntry "jdk/internal/util/ArraysSupport" (110 : Nat)) ∈ lw_tbl := lw_at lw_m3 134 rfl
theorem q697 : (Jvm.Cond.methodLink "jdk/internal/util/ArraysSupport" (110 : Nat) ({ cls := "jdk/internal/access/JavaLangAccess", name := "getUTF16Char", desc := "([BI)C" } : Jvm.MethodName)) ∈ lw_all := lw_g (lw_at lw_m3 135 rfl) rfl
theorem q707 : (Jvm.Cond.classLink "jdk/internal/util/ArraysSupport" (69 : Nat) "[C") ∈ lw_all := lw_g (lw_at lw_m3 145 rfl) rfl
theorem q708 : (Jvm.Cond.methodLink "jdk/internal/util/ArraysSupport" (71 : Nat) ({ cls := "jdk/internal/util/ArraysSupport", name := "hashCode", desc := "(I[CII)I" } : Jvm.MethodName)) ∈ lw_all := lw_g (lw_at lw_m3 146 rfl) rfl
theorem q709 : (Jvm.Cond.static ({ cls := "jdk/internal/util/ArraysSupport", name := "hashCode", desc := "(I[CII)I" } : Jvm.MethodName)) ∈ lw_all := lw_g (lw_at lw_m3 147 rfl) rfl
theorem q710 : (Jvm.Cond.code ({ cls := "jdk/internal/util/ArraysSupport", name := "hashCode", desc := "(I[CII)I" } : Jvm.MethodName) prog_32_method_7_code (6 : Nat) (Option.some Jvm.ClassFile.FieldType.int)) ∈ lw_all := lw_g (lw_at lw_m3 148 rfl) rfl
theorem q711 : (Jvm.Cond.methodLink "jdk/internal/util/ArraysSupport" (75 : Nat) ({ cls := "jdk/internal/util/ArraysSupport", name := "hashCode", desc := "(I[BII)I" } : Jvm.MethodName)) ∈ lw_all := lw_g (lw_at lw_m3 149 rfl) rfl
theorem q712 : (Jvm.Cond.static ({ cls := "jdk/internal/util/ArraysSupport", name := "hashCode", desc := "(I[BII)I" } : Jvm.MethodName)) ∈ lw_all := lw_g (lw_at lw_m3 150 rfl) rfl
theorem q713 : (Jvm.Cond.code ({ cls := "jdk/internal/util/ArraysSupport", name := "hashCode", desc := "(I[BII)I" } : Jvm.MethodName) prog_32_method_6_code (6 : Nat) (Option.some Jvm.ClassFile.FieldType.int)) ∈ lw_all := lw_g (lw_at lw_m3 151 rfl) rfl
theorem q714 : (Jvm.Cond.classLink "jdk/internal/util/ArraysSupport" (77 : Nat) "[S") ∈ lw_all := lw_g (lw_at lw_m3 152 rfl) rfl
theorem q715 : (Jvm.Cond.methodLink "jdk/internal/util/ArraysSupport" (79 : Nat) ({ cls := "jdk/internal/util/ArraysSupport", name := "hashCode", desc := "(I[SII)I" } : Jvm.MethodName)) ∈ lw_all := lw_g (lw_at lw_m3 153 rfl) rfl
theorem q716 : (Jvm.Cond.static ({ cls := "jdk/internal/util/ArraysSupport", name := "hashCode", desc := "(I[SII)I" } : Jvm.MethodName)) ∈ lw_all := lw_g (lw_at lw_m3 154 rfl) rfl
theorem q717 : (Jvm.Cond.code ({ cls := "jdk/internal/util/ArraysSupport", name := "hashCode", desc := "(I[SII)I" } : Jvm.MethodName) prog_32_method_8_code (6 : Nat) (Option.some Jvm.ClassFile.FieldType.int)) ∈ lw_all := lw_g (lw_at lw_m3 155 rfl) rfl
theorem q718 : (Jvm.Cond.classLink "jdk/internal/util/ArraysSupport" (82 : Nat) "[I") ∈ lw_all := lw_g (lw_at lw_m3 156 rfl) rfl
theorem q719 : (Jvm.Cond.methodLink "jdk/internal/util/ArraysSupport" (84 : Nat) ({ cls := "jdk/internal/util/ArraysSupport", name := "hashCode", desc := "(I[III)I" } : Jvm.MethodName)) ∈ lw_all := lw_g (lw_at lw_m3 157 rfl) rfl
theorem q720 : (Jvm.Cond.static ({ cls := "jdk/internal/util/ArraysSupport", name := "hashCode", desc := "(I[III)I" } : Jvm.MethodName)) ∈ lw_all := lw_g (lw_at lw_m3 158 rfl) rfl
theorem q721 : (Jvm.Cond.code ({ cls := "jdk/internal/util/ArraysSupport", name := "hashCode", desc := "(I[III)I" } : Jvm.MethodName) prog_32_method_9_code (6 : Nat) (Option.some Jvm.ClassFile.FieldType.int)) ∈ lw_all := lw_g (lw_at lw_m3 159 rfl) rfl

/-! java/lang/Math -/
set_option maxRecDepth 100000
def RJ8 : String := "java/lang/Math"
abbrev cJ8_max : ByteArray := prog_20_method_65_code
def yJ8_max : MethodName := ⟨RJ8, "max", "(II)I"⟩
def dkwJ8_max_0 : List UInt8 := [26, 27, 161, 0, 7, 26, 167, 0, 4, 27, 172]
abbrev dktJ8_max_0 : List UInt8 := dkwJ8_max_0 ++ []
theorem dksJ8_max_0 : cJ8_max.data.toList.drop 0 = dktJ8_max_0 := by decide +kernel
theorem dJ8_max_0 : decode cJ8_max 0 = .ok (.iload_n 0, 1) := dk_26 (dk_at dksJ8_max_0 0 rfl rfl)
theorem dJ8_max_1 : decode cJ8_max 1 = .ok (.iload_n 1, 1) := dk_27 (dk_at dksJ8_max_0 1 rfl rfl)
theorem dJ8_max_2 : decode cJ8_max 2 = .ok (.if_icmp .lt 7, 3) := dk_161 0 7 (dk_at dksJ8_max_0 2 rfl rfl)
theorem dJ8_max_5 : decode cJ8_max 5 = .ok (.iload_n 0, 1) := dk_26 (dk_at dksJ8_max_0 5 rfl rfl)
theorem dJ8_max_6 : decode cJ8_max 6 = .ok (.goto 4, 3) := dk_167 0 4 (dk_at dksJ8_max_0 6 rfl rfl)
theorem dJ8_max_9 : decode cJ8_max 9 = .ok (.iload_n 1, 1) := dk_27 (dk_at dksJ8_max_0 9 rfl rfl)
theorem dJ8_max_10 : decode cJ8_max 10 = .ok (.ireturn, 1) := dk_172 (dk_at dksJ8_max_0 10 rfl rfl)
abbrev cJ8_min : ByteArray := prog_20_method_69_code
def yJ8_min : MethodName := ⟨RJ8, "min", "(II)I"⟩
def dkwJ8_min_0 : List UInt8 := [26, 27, 163, 0, 7, 26, 167, 0, 4, 27, 172]
abbrev dktJ8_min_0 : List UInt8 := dkwJ8_min_0 ++ []
theorem dksJ8_min_0 : cJ8_min.data.toList.drop 0 = dktJ8_min_0 := by decide +kernel
theorem dJ8_min_0 : decode cJ8_min 0 = .ok (.iload_n 0, 1) := dk_26 (dk_at dksJ8_min_0 0 rfl rfl)
theorem dJ8_min_1 : decode cJ8_min 1 = .ok (.iload_n 1, 1) := dk_27 (dk_at dksJ8_min_0 1 rfl rfl)
theorem dJ8_min_2 : decode cJ8_min 2 = .ok (.if_icmp .gt 7, 3) := dk_163 0 7 (dk_at dksJ8_min_0 2 rfl rfl)
theorem dJ8_min_5 : decode cJ8_min 5 = .ok (.iload_n 0, 1) := dk_26 (dk_at dksJ8_min_0 5 rfl rfl)
theorem dJ8_min_6 : decode cJ8_min 6 = .ok (.goto 4, 3) := dk_167 0 4 (dk_at dksJ8_min_0 6 rfl rfl)
theorem dJ8_min_9 : decode cJ8_min 9 = .ok (.iload_n 1, 1) := dk_27 (dk_at dksJ8_min_0 9 rfl rfl)
theorem dJ8_min_10 : decode cJ8_min 10 = .ok (.ireturn, 1) := dk_172 (dk_at dksJ8_min_0 10 rfl rfl)
theorem q104 : (Jvm.Cond.initialized "java/lang/Math") ∈ lw_all := lw_g (lw_at lw_m1 22 rfl) rfl
theorem q906 : (Jvm.Cond.static ({ cls := "java/lang/Math", name := "max", desc := "(II)I" } : Jvm.MethodName)) ∈ lw_all := lw_g (lw_at lw_m4 104 rfl) rfl
theorem q907 : (Jvm.Cond.code ({ cls := "java/lang/Math", name := "max", desc := "(II)I" } : Jvm.MethodName) prog_20_method_65_code (2 : Nat) (Option.some Jvm.ClassFile.FieldType.int)) ∈ lw_all := lw_g (lw_at lw_m4 105 rfl) rfl
theorem q921 : (Jvm.Cond.static ({ cls := "java/lang/Math", name := "min", desc := "(II)I" } : Jvm.MethodName)) ∈ lw_all := lw_g (lw_at lw_m4 119 rfl) rfl
theorem q922 : (Jvm.Cond.code ({ cls := "java/lang/Math", name := "min", desc := "(II)I" } : Jvm.MethodName) prog_20_method_69_code (2 : Nat) (Option.some Jvm.ClassFile.FieldType.int)) ∈ lw_all := lw_g (lw_at lw_m4 120 rfl) rfl

/-! java/util/NoSuchElementException -/
set_option maxRecDepth 100000
def RJ9 : String := "java/util/NoSuchElementException"
def TJ9 : u_T := fun k => match k with
  | 0 => ("java/lang/Throwable", "cause", "Ljava/lang/Throwable;", false)
  | 1 => ("java/lang/Throwable", "stackTrace", "[Ljava/lang/StackTraceElement;", false)
  | 2 => ("java/lang/Throwable", "suppressedExceptions", "Ljava/util/List;", false)
  | 3 => ("java/lang/Throwable", "detailMessage", "Ljava/lang/String;", false)
  | 4 => ("java/lang/Throwable", "backtrace", "Ljava/lang/Object;", false)
  | _ => ("java/lang/Throwable", "depth", "I", false)
def tyJ9 : Nat → FieldType := fun k => match k with
  | 0 => .object "java/lang/Throwable"
  | 1 => .array (.object "java/lang/StackTraceElement")
  | 2 => .object "java/util/List"
  | 3 => .object "java/lang/String"
  | 4 => .object "java/lang/Object"
  | _ => .int
abbrev wsJ90 : List Cond := u_ws RJ9 TJ9 6
theorem nmJ9 : ∀ a, a < 6 → ∀ b, b < 6 → a ≠ b → (TJ9 a).2.1 ≠ (TJ9 b).2.1 := by decide +kernel
theorem tyJ9_ok : ∀ k, k < 6 → parseFieldDescriptor (TJ9 k).2.2.1 = some (tyJ9 k) := by decide +kernel
abbrev cJ9_init : ByteArray := prog_30_method_1_code
def yJ9_init : MethodName := ⟨RJ9, "<init>", "()V"⟩
theorem dJ9_init_0 : decode cJ9_init 0 = .ok (.aload_n 0, 1) := by decide +kernel
theorem dJ9_init_1 : decode cJ9_init 1 = .ok (.invokespecial 1, 3) := by decide +kernel
theorem dJ9_init_4 : decode cJ9_init 4 = .ok (.return_, 1) := by decide +kernel
theorem q106 : (Jvm.Cond.initialized "java/util/NoSuchElementException") ∈ lw_all := lw_g (lw_at lw_m1 24 rfl) rfl
theorem q154 : (Jvm.Cond.selects "java/util/NoSuchElementException" ({ cls := "java/lang/Throwable", name := "fillInStackTrace", desc := "()Ljava/lang/Throwable;" } : Jvm.MethodName) ({ cls := "java/lang/Throwable", name := "fillInStackTrace", desc := "()Ljava/lang/Throwable;" } : Jvm.MethodName)) ∈ lw_all := lw_g (lw_at lw_m1 72 rfl) rfl
theorem q1115 : (Jvm.Cond.instantiable "java/util/NoSuchElementException" (6 : Nat)) ∈ lw_all := lw_g (lw_at lw_m5 73 rfl) rfl
theorem q1116 : (Jvm.Cond.castable "java/util/NoSuchElementException" "java/util/NoSuchElementException") ∈ lw_tbl := lw_at lw_m5 74 rfl
theorem q1117 : (Jvm.Cond.selects "java/util/NoSuchElementException" ({ cls := "java/lang/Throwable", name := "fillInStackTrace", desc := "(I)Ljava/lang/Throwable;" } : Jvm.MethodName) ({ cls := "java/lang/Throwable", name := "fillInStackTrace", desc := "(I)Ljava/lang/Throwable;" } : Jvm.MethodName)) ∈ lw_all := lw_g (lw_at lw_m5 75 rfl) rfl
theorem q1118 : (Jvm.Cond.lays "java/util/NoSuchElementException" "java/lang/Throwable" "cause" "Ljava/lang/Throwable;") ∈ lw_all := lw_g (lw_at lw_m5 76 rfl) rfl
theorem q1119 : (Jvm.Cond.lays "java/util/NoSuchElementException" "java/lang/Throwable" "stackTrace" "[Ljava/lang/StackTraceElement;") ∈ lw_all := lw_g (lw_at lw_m5 77 rfl) rfl
theorem q1120 : (Jvm.Cond.lays "java/util/NoSuchElementException" "java/lang/Throwable" "suppressedExceptions" "Ljava/util/List;") ∈ lw_all := lw_g (lw_at lw_m5 78 rfl) rfl
theorem q1121 : (Jvm.Cond.lays "java/util/NoSuchElementException" "java/lang/Throwable" "detailMessage" "Ljava/lang/String;") ∈ lw_all := lw_g (lw_at lw_m5 79 rfl) rfl
theorem q1122 : (Jvm.Cond.lays "java/util/NoSuchElementException" "java/lang/Throwable" "backtrace" "Ljava/lang/Object;") ∈ lw_all := lw_g (lw_at lw_m5 80 rfl) rfl
theorem q1124 : (Jvm.Cond.instanceMethod ({ cls := "java/util/NoSuchElementException", name := "<init>", desc := "()V" } : Jvm.MethodName)) ∈ lw_all := lw_g (lw_at lw_m5 82 rfl) rfl
theorem q1125 : (Jvm.Cond.code ({ cls := "java/util/NoSuchElementException", name := "<init>", desc := "()V" } : Jvm.MethodName) prog_30_method_1_code (1 : Nat) (Option.none : Option Jvm.ClassFile.FieldType)) ∈ lw_all := lw_g (lw_at lw_m5 83 rfl) rfl
theorem q1126 : (Jvm.Cond.methodLink "java/util/NoSuchElementException" (1 : Nat) ({ cls := "java/lang/RuntimeException", name := "<init>", desc := "()V" } : Jvm.MethodName)) ∈ lw_all := lw_g (lw_at lw_m5 84 rfl) rfl
theorem q1133 : (Jvm.Cond.lays "java/util/NoSuchElementException" "java/lang/Throwable" "depth" "I") ∈ lw_all := lw_g (lw_at lw_m5 91 rfl) rfl
theorem q1134 : (Jvm.Cond.superclass "java/util/NoSuchElementException" "java/lang/RuntimeException") ∈ lw_all := lw_g (lw_at lw_m5 92 rfl) rfl
theorem q1709 : (Jvm.Cond.castable "java/util/NoSuchElementException" "java/lang/Object") ∈ lw_tbl := lw_at lw_m7 187 rfl
theorem in_J9 : ∀ w ∈ wsJ90, w ∈ lw_all := lw_in wsJ90 [1118, 1119, 1120, 1121, 1122, 1133] (by decide +kernel) (by decide +kernel)

/-! java/lang/Object -/
set_option maxRecDepth 100000
def RJ10 : String := "java/lang/Object"
abbrev cJ10_init : ByteArray := object_method_1_code
def yJ10_init : MethodName := ⟨RJ10, "<init>", "()V"⟩
theorem dJ10_init_0 : decode cJ10_init 0 = .ok (.return_, 1) := by decide +kernel
theorem q113 : (Jvm.Cond.instanceMethod ({ cls := "java/lang/Object", name := "<init>", desc := "()V" } : Jvm.MethodName)) ∈ lw_all := lw_g (lw_at lw_m1 31 rfl) rfl
theorem q114 : (Jvm.Cond.code ({ cls := "java/lang/Object", name := "<init>", desc := "()V" } : Jvm.MethodName) object_method_1_code (1 : Nat) (Option.none : Option Jvm.ClassFile.FieldType)) ∈ lw_all := lw_g (lw_at lw_m1 32 rfl) rfl

/-! java/lang/System$2 -/
set_option maxRecDepth 100000
def RJ11 : String := "java/lang/System$2"
abbrev cJ11_getUTF16Char : ByteArray := prog_26_method_45_code
def yJ11_getUTF16Char : MethodName := ⟨RJ11, "getUTF16Char", "([BI)C"⟩
def dkwJ11_getUTF16Char_0 : List UInt8 := [43, 28, 184, 0, 185, 172]
abbrev dktJ11_getUTF16Char_0 : List UInt8 := dkwJ11_getUTF16Char_0 ++ []
theorem dksJ11_getUTF16Char_0 : cJ11_getUTF16Char.data.toList.drop 0 = dktJ11_getUTF16Char_0 := by decide +kernel
theorem dJ11_getUTF16Char_0 : decode cJ11_getUTF16Char 0 = .ok (.aload_n 1, 1) := dk_43 (dk_at dksJ11_getUTF16Char_0 0 rfl rfl)
theorem dJ11_getUTF16Char_1 : decode cJ11_getUTF16Char 1 = .ok (.iload_n 2, 1) := dk_28 (dk_at dksJ11_getUTF16Char_0 1 rfl rfl)
theorem dJ11_getUTF16Char_2 : decode cJ11_getUTF16Char 2 = .ok (.invokestatic 185, 3) := dk_184 0 185 (dk_at dksJ11_getUTF16Char_0 2 rfl rfl)
theorem dJ11_getUTF16Char_5 : decode cJ11_getUTF16Char 5 = .ok (.ireturn, 1) := dk_172 (dk_at dksJ11_getUTF16Char_0 5 rfl rfl)
theorem q700 : (Jvm.Cond.castable "java/lang/System$2" "jdk/internal/access/JavaLangAccess") ∈ lw_tbl := lw_at lw_m3 138 rfl
theorem q701 : (Jvm.Cond.selects "java/lang/System$2" ({ cls := "jdk/internal/access/JavaLangAccess", name := "getUTF16Char", desc := "([BI)C" } : Jvm.MethodName) ({ cls := "java/lang/System$2", name := "getUTF16Char", desc := "([BI)C" } : Jvm.MethodName)) ∈ lw_all := lw_g (lw_at lw_m3 139 rfl) rfl
theorem q702 : (Jvm.Cond.unhidden "java/lang/System$2" "getUTF16Char" "([BI)C") ∈ lw_tbl := lw_at lw_m3 140 rfl
theorem q703 : (Jvm.Cond.instanceMethod ({ cls := "java/lang/System$2", name := "getUTF16Char", desc := "([BI)C" } : Jvm.MethodName)) ∈ lw_all := lw_g (lw_at lw_m3 141 rfl) rfl
theorem q704 : (Jvm.Cond.publicMethod ({ cls := "java/lang/System$2", name := "getUTF16Char", desc := "([BI)C" } : Jvm.MethodName)) ∈ lw_tbl := lw_at lw_m3 142 rfl
theorem q705 : (Jvm.Cond.code ({ cls := "java/lang/System$2", name := "getUTF16Char", desc := "([BI)C" } : Jvm.MethodName) prog_26_method_45_code (3 : Nat) (Option.some Jvm.ClassFile.FieldType.char)) ∈ lw_all := lw_g (lw_at lw_m3 143 rfl) rfl
theorem q706 : (Jvm.Cond.methodLink "java/lang/System$2" (185 : Nat) ({ cls := "java/lang/StringUTF16", name := "getChar", desc := "([BI)C" } : Jvm.MethodName)) ∈ lw_all := lw_g (lw_at lw_m3 144 rfl) rfl
theorem q1705 : (Jvm.Cond.castable "java/lang/System$2" "java/lang/Object") ∈ lw_tbl := lw_at lw_m7 183 rfl

