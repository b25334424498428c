/-! RoarMillModel -/
set_option maxRecDepth 100000
def RX8 : String := "RoarMillModel"
def TX8 : u_T := fun k => match k with
  | 0 => ("RoarMillModel", "thrown", "I", false)
  | 1 => ("RoarMillModel", "trouble", "I", false)
  | 2 => ("RoarMillModel", "where", "I", false)
  | 3 => ("RoarMillModel", "mill", "LRoarMillModel$Mill;", false)
  | 4 => ("RoarMillModel", "fresh", "LRoarMillModel$Mill;", false)
  | 5 => ("RoarMillModel", "tape", "[B", true)
  | 6 => ("RoarMillModel", "taped", "I", false)
  | 7 => ("RoarMillModel", "size", "I", false)
  | 8 => ("RoarMillModel", "at", "I", false)
  | 9 => ("RoarMillModel", "sort", "I", false)
  | 10 => ("RoarMillModel", "place", "I", false)
  | 11 => ("RoarMillModel", "mark", "I", false)
  | 12 => ("RoarMillModel", "number", "I", false)
  | 13 => ("RoarMillModel", "fault", "I", false)
  | 14 => ("RoarMillModel", "wrongAt", "I", false)
  | 15 => ("RoarMillModel", "word", "J", false)
  | 16 => ("RoarMillModel", "state", "[I", true)
  | 17 => ("RoarMillModel", "twin", "[I", true)
  | 18 => ("RoarMillModel", "stood", "I", false)
  | 19 => ("RoarMillModel", "stands", "[I", true)
  | 20 => ("RoarMillModel", "programRate", "[I", true)
  | 21 => ("RoarMillModel", "programWater", "[I", true)
  | 22 => ("RoarMillModel", "programOre", "[I", true)
  | 23 => ("RoarMillModel", "seen", "I", false)
  | 24 => ("RoarMillModel", "seenHour", "[I", true)
  | 25 => ("RoarMillModel", "seenWhat", "[I", true)
  | 26 => ("RoarMillModel", "seenValue", "[I", true)
  | 27 => ("RoarMillModel", "seenOff", "[I", true)
  | 28 => ("RoarMillModel", "fit", "[I", true)
  | 29 => ("RoarMillModel", "planned", "I", false)
  | 30 => ("RoarMillModel", "plan", "[I", true)
  | 31 => ("RoarMillModel", "rates", "[I", true)
  | 32 => ("RoarMillModel", "trial", "[I", true)
  | 33 => ("RoarMillModel", "rows", "[I", true)
  | 34 => ("RoarMillModel", "told", "[I", true)
  | 35 => ("RoarMillModel", "marked", "[J", true)
  | _ => ("RoarMillModel", "markedBack", "[J", true)
def tyX8 : Nat → FieldType := fun k => match k with
  | 0 => .int
  | 1 => .int
  | 2 => .int
  | 3 => .object "RoarMillModel$Mill"
  | 4 => .object "RoarMillModel$Mill"
  | 5 => .array .byte
  | 6 => .int
  | 7 => .int
  | 8 => .int
  | 9 => .int
  | 10 => .int
  | 11 => .int
  | 12 => .int
  | 13 => .int
  | 14 => .int
  | 15 => .long
  | 16 => .array .int
  | 17 => .array .int
  | 18 => .int
  | 19 => .array .int
  | 20 => .array .int
  | 21 => .array .int
  | 22 => .array .int
  | 23 => .int
  | 24 => .array .int
  | 25 => .array .int
  | 26 => .array .int
  | 27 => .array .int
  | 28 => .array .int
  | 29 => .int
  | 30 => .array .int
  | 31 => .array .int
  | 32 => .array .int
  | 33 => .array .int
  | 34 => .array .int
  | 35 => .array .long
  | _ => .array .long
abbrev wsX80 : List Cond := u_ws RX8 TX8 37
set_option maxRecDepth 100000 in
theorem nmX8 : ∀ a, a < 37 → ∀ b, b < 37 → a ≠ b → (TX8 a).2.1 ≠ (TX8 b).2.1 := by decide +kernel
set_option maxRecDepth 100000 in
theorem tyX8_ok : ∀ k, k < 37 → parseFieldDescriptor (TX8 k).2.2.1 = some (tyX8 k) := by decide +kernel
abbrev cX8_init : ByteArray := prog_14_method_1_code
def yX8_init : MethodName := ⟨RX8, "<init>", "()V"⟩
def dkwX8_init_6 : List UInt8 := [181, 0, 63, 42, 8, 188, 11, 181, 0, 66, 42, 8, 188, 11, 181, 0, 70, 177]
abbrev dktX8_init_6 : List UInt8 := dkwX8_init_6 ++ []
def dkwX8_init_5 : List UInt8 := [181, 0, 54, 42, 16, 37, 188, 10, 181, 0, 57, 42, 5, 188, 10, 181, 0, 60, 42, 16, 16, 188, 10]
abbrev dktX8_init_5 : List UInt8 := dkwX8_init_5 ++ dktX8_init_6
def dkwX8_init_4 : List UInt8 := [188, 10, 181, 0, 45, 42, 16, 100, 188, 10, 181, 0, 48, 42, 8, 188, 10, 181, 0, 51, 42, 8, 188, 10]
abbrev dktX8_init_4 : List UInt8 := dkwX8_init_4 ++ dktX8_init_5
def dkwX8_init_3 : List UInt8 := [188, 10, 181, 0, 36, 42, 16, 24, 188, 10, 181, 0, 39, 42, 16, 24, 188, 10, 181, 0, 42, 42, 16, 24]
abbrev dktX8_init_3 : List UInt8 := dkwX8_init_3 ++ dktX8_init_4
def dkwX8_init_2 : List UInt8 := [188, 10, 181, 0, 27, 42, 16, 12, 188, 10, 181, 0, 30, 42, 16, 12, 188, 10, 181, 0, 33, 42, 16, 24]
abbrev dktX8_init_2 : List UInt8 := dkwX8_init_2 ++ dktX8_init_3
def dkwX8_init_1 : List UInt8 := [181, 0, 17, 42, 16, 37, 188, 10, 181, 0, 21, 42, 17, 0, 240, 188, 10, 181, 0, 24, 42, 16, 12]
abbrev dktX8_init_1 : List UInt8 := dkwX8_init_1 ++ dktX8_init_2
def dkwX8_init_0 : List UInt8 := [42, 183, 0, 1, 42, 2, 181, 0, 9, 42, 17, 2, 188, 188, 8, 181, 0, 13, 42, 16, 37, 188, 10]
abbrev dktX8_init_0 : List UInt8 := dkwX8_init_0 ++ dktX8_init_1
theorem dksX8_init_0 : cX8_init.data.toList.drop 0 = dktX8_init_0 := by decide +kernel
theorem dksX8_init_1 : cX8_init.data.toList.drop 23 = dktX8_init_1 := dk_seg dksX8_init_0 23 rfl rfl
theorem dksX8_init_2 : cX8_init.data.toList.drop 46 = dktX8_init_2 := dk_seg dksX8_init_1 23 rfl rfl
theorem dksX8_init_3 : cX8_init.data.toList.drop 70 = dktX8_init_3 := dk_seg dksX8_init_2 24 rfl rfl
theorem dksX8_init_4 : cX8_init.data.toList.drop 94 = dktX8_init_4 := dk_seg dksX8_init_3 24 rfl rfl
theorem dksX8_init_5 : cX8_init.data.toList.drop 118 = dktX8_init_5 := dk_seg dksX8_init_4 24 rfl rfl
theorem dksX8_init_6 : cX8_init.data.toList.drop 141 = dktX8_init_6 := dk_seg dksX8_init_5 23 rfl rfl
theorem dX8_init_0 : decode cX8_init 0 = .ok (.aload_n 0, 1) := dk_42 (dk_at dksX8_init_0 0 rfl rfl)
theorem dX8_init_1 : decode cX8_init 1 = .ok (.invokespecial 1, 3) := dk_183 0 1 (dk_at dksX8_init_0 1 rfl rfl)
theorem dX8_init_4 : decode cX8_init 4 = .ok (.aload_n 0, 1) := dk_42 (dk_at dksX8_init_0 4 rfl rfl)
theorem dX8_init_5 : decode cX8_init 5 = .ok (.iconst (-1), 1) := dk_2 (dk_at dksX8_init_0 5 rfl rfl)
theorem dX8_init_6 : decode cX8_init 6 = .ok (.putfield 9, 3) := dk_181 0 9 (dk_at dksX8_init_0 6 rfl rfl)
theorem dX8_init_9 : decode cX8_init 9 = .ok (.aload_n 0, 1) := dk_42 (dk_at dksX8_init_0 9 rfl rfl)
theorem dX8_init_10 : decode cX8_init 10 = .ok (.sipush 700, 3) := dk_17 2 188 (dk_at dksX8_init_0 10 rfl rfl)
theorem dX8_init_13 : decode cX8_init 13 = .ok (.newarray .byte, 2) := dk_188_8 (dk_at dksX8_init_0 13 rfl rfl)
theorem dX8_init_15 : decode cX8_init 15 = .ok (.putfield 13, 3) := dk_181 0 13 (dk_at dksX8_init_0 15 rfl rfl)
theorem dX8_init_18 : decode cX8_init 18 = .ok (.aload_n 0, 1) := dk_42 (dk_at dksX8_init_0 18 rfl rfl)
theorem dX8_init_19 : decode cX8_init 19 = .ok (.bipush 37, 2) := dk_16 37 (dk_at dksX8_init_0 19 rfl rfl)
theorem dX8_init_21 : decode cX8_init 21 = .ok (.newarray .int, 2) := dk_188_10 (dk_at dksX8_init_0 21 rfl rfl)
theorem dX8_init_23 : decode cX8_init 23 = .ok (.putfield 17, 3) := dk_181 0 17 (dk_at dksX8_init_1 0 rfl rfl)
theorem dX8_init_26 : decode cX8_init 26 = .ok (.aload_n 0, 1) := dk_42 (dk_at dksX8_init_1 3 rfl rfl)
theorem dX8_init_27 : decode cX8_init 27 = .ok (.bipush 37, 2) := dk_16 37 (dk_at dksX8_init_1 4 rfl rfl)
theorem dX8_init_29 : decode cX8_init 29 = .ok (.newarray .int, 2) := dk_188_10 (dk_at dksX8_init_1 6 rfl rfl)
theorem dX8_init_31 : decode cX8_init 31 = .ok (.putfield 21, 3) := dk_181 0 21 (dk_at dksX8_init_1 8 rfl rfl)
theorem dX8_init_34 : decode cX8_init 34 = .ok (.aload_n 0, 1) := dk_42 (dk_at dksX8_init_1 11 rfl rfl)
theorem dX8_init_35 : decode cX8_init 35 = .ok (.sipush 240, 3) := dk_17 0 240 (dk_at dksX8_init_1 12 rfl rfl)
theorem dX8_init_38 : decode cX8_init 38 = .ok (.newarray .int, 2) := dk_188_10 (dk_at dksX8_init_1 15 rfl rfl)
theorem dX8_init_40 : decode cX8_init 40 = .ok (.putfield 24, 3) := dk_181 0 24 (dk_at dksX8_init_1 17 rfl rfl)
theorem dX8_init_43 : decode cX8_init 43 = .ok (.aload_n 0, 1) := dk_42 (dk_at dksX8_init_1 20 rfl rfl)
theorem dX8_init_44 : decode cX8_init 44 = .ok (.bipush 12, 2) := dk_16 12 (dk_at dksX8_init_1 21 rfl rfl)
theorem dX8_init_46 : decode cX8_init 46 = .ok (.newarray .int, 2) := dk_188_10 (dk_at dksX8_init_2 0 rfl rfl)
theorem dX8_init_48 : decode cX8_init 48 = .ok (.putfield 27, 3) := dk_181 0 27 (dk_at dksX8_init_2 2 rfl rfl)
theorem dX8_init_51 : decode cX8_init 51 = .ok (.aload_n 0, 1) := dk_42 (dk_at dksX8_init_2 5 rfl rfl)
theorem dX8_init_52 : decode cX8_init 52 = .ok (.bipush 12, 2) := dk_16 12 (dk_at dksX8_init_2 6 rfl rfl)
theorem dX8_init_54 : decode cX8_init 54 = .ok (.newarray .int, 2) := dk_188_10 (dk_at dksX8_init_2 8 rfl rfl)
theorem dX8_init_56 : decode cX8_init 56 = .ok (.putfield 30, 3) := dk_181 0 30 (dk_at dksX8_init_2 10 rfl rfl)
theorem dX8_init_59 : decode cX8_init 59 = .ok (.aload_n 0, 1) := dk_42 (dk_at dksX8_init_2 13 rfl rfl)
theorem dX8_init_60 : decode cX8_init 60 = .ok (.bipush 12, 2) := dk_16 12 (dk_at dksX8_init_2 14 rfl rfl)
theorem dX8_init_62 : decode cX8_init 62 = .ok (.newarray .int, 2) := dk_188_10 (dk_at dksX8_init_2 16 rfl rfl)
theorem dX8_init_64 : decode cX8_init 64 = .ok (.putfield 33, 3) := dk_181 0 33 (dk_at dksX8_init_2 18 rfl rfl)
theorem dX8_init_67 : decode cX8_init 67 = .ok (.aload_n 0, 1) := dk_42 (dk_at dksX8_init_2 21 rfl rfl)
theorem dX8_init_68 : decode cX8_init 68 = .ok (.bipush 24, 2) := dk_16 24 (dk_at dksX8_init_2 22 rfl rfl)
theorem dX8_init_70 : decode cX8_init 70 = .ok (.newarray .int, 2) := dk_188_10 (dk_at dksX8_init_3 0 rfl rfl)
theorem dX8_init_72 : decode cX8_init 72 = .ok (.putfield 36, 3) := dk_181 0 36 (dk_at dksX8_init_3 2 rfl rfl)
theorem dX8_init_75 : decode cX8_init 75 = .ok (.aload_n 0, 1) := dk_42 (dk_at dksX8_init_3 5 rfl rfl)
theorem dX8_init_76 : decode cX8_init 76 = .ok (.bipush 24, 2) := dk_16 24 (dk_at dksX8_init_3 6 rfl rfl)
theorem dX8_init_78 : decode cX8_init 78 = .ok (.newarray .int, 2) := dk_188_10 (dk_at dksX8_init_3 8 rfl rfl)
theorem dX8_init_80 : decode cX8_init 80 = .ok (.putfield 39, 3) := dk_181 0 39 (dk_at dksX8_init_3 10 rfl rfl)
theorem dX8_init_83 : decode cX8_init 83 = .ok (.aload_n 0, 1) := dk_42 (dk_at dksX8_init_3 13 rfl rfl)
theorem dX8_init_84 : decode cX8_init 84 = .ok (.bipush 24, 2) := dk_16 24 (dk_at dksX8_init_3 14 rfl rfl)
theorem dX8_init_86 : decode cX8_init 86 = .ok (.newarray .int, 2) := dk_188_10 (dk_at dksX8_init_3 16 rfl rfl)
theorem dX8_init_88 : decode cX8_init 88 = .ok (.putfield 42, 3) := dk_181 0 42 (dk_at dksX8_init_3 18 rfl rfl)
theorem dX8_init_91 : decode cX8_init 91 = .ok (.aload_n 0, 1) := dk_42 (dk_at dksX8_init_3 21 rfl rfl)
theorem dX8_init_92 : decode cX8_init 92 = .ok (.bipush 24, 2) := dk_16 24 (dk_at dksX8_init_3 22 rfl rfl)
theorem dX8_init_94 : decode cX8_init 94 = .ok (.newarray .int, 2) := dk_188_10 (dk_at dksX8_init_4 0 rfl rfl)
theorem dX8_init_96 : decode cX8_init 96 = .ok (.putfield 45, 3) := dk_181 0 45 (dk_at dksX8_init_4 2 rfl rfl)
theorem dX8_init_99 : decode cX8_init 99 = .ok (.aload_n 0, 1) := dk_42 (dk_at dksX8_init_4 5 rfl rfl)
theorem dX8_init_100 : decode cX8_init 100 = .ok (.bipush 100, 2) := dk_16 100 (dk_at dksX8_init_4 6 rfl rfl)
theorem dX8_init_102 : decode cX8_init 102 = .ok (.newarray .int, 2) := dk_188_10 (dk_at dksX8_init_4 8 rfl rfl)
theorem dX8_init_104 : decode cX8_init 104 = .ok (.putfield 48, 3) := dk_181 0 48 (dk_at dksX8_init_4 10 rfl rfl)
theorem dX8_init_107 : decode cX8_init 107 = .ok (.aload_n 0, 1) := dk_42 (dk_at dksX8_init_4 13 rfl rfl)
theorem dX8_init_108 : decode cX8_init 108 = .ok (.iconst 5, 1) := dk_8 (dk_at dksX8_init_4 14 rfl rfl)
theorem dX8_init_109 : decode cX8_init 109 = .ok (.newarray .int, 2) := dk_188_10 (dk_at dksX8_init_4 15 rfl rfl)
theorem dX8_init_111 : decode cX8_init 111 = .ok (.putfield 51, 3) := dk_181 0 51 (dk_at dksX8_init_4 17 rfl rfl)
theorem dX8_init_114 : decode cX8_init 114 = .ok (.aload_n 0, 1) := dk_42 (dk_at dksX8_init_4 20 rfl rfl)
theorem dX8_init_115 : decode cX8_init 115 = .ok (.iconst 5, 1) := dk_8 (dk_at dksX8_init_4 21 rfl rfl)
theorem dX8_init_116 : decode cX8_init 116 = .ok (.newarray .int, 2) := dk_188_10 (dk_at dksX8_init_4 22 rfl rfl)
theorem dX8_init_118 : decode cX8_init 118 = .ok (.putfield 54, 3) := dk_181 0 54 (dk_at dksX8_init_5 0 rfl rfl)
theorem dX8_init_121 : decode cX8_init 121 = .ok (.aload_n 0, 1) := dk_42 (dk_at dksX8_init_5 3 rfl rfl)
theorem dX8_init_122 : decode cX8_init 122 = .ok (.bipush 37, 2) := dk_16 37 (dk_at dksX8_init_5 4 rfl rfl)
theorem dX8_init_124 : decode cX8_init 124 = .ok (.newarray .int, 2) := dk_188_10 (dk_at dksX8_init_5 6 rfl rfl)
theorem dX8_init_126 : decode cX8_init 126 = .ok (.putfield 57, 3) := dk_181 0 57 (dk_at dksX8_init_5 8 rfl rfl)
theorem dX8_init_129 : decode cX8_init 129 = .ok (.aload_n 0, 1) := dk_42 (dk_at dksX8_init_5 11 rfl rfl)
theorem dX8_init_130 : decode cX8_init 130 = .ok (.iconst 2, 1) := dk_5 (dk_at dksX8_init_5 12 rfl rfl)
theorem dX8_init_131 : decode cX8_init 131 = .ok (.newarray .int, 2) := dk_188_10 (dk_at dksX8_init_5 13 rfl rfl)
theorem dX8_init_133 : decode cX8_init 133 = .ok (.putfield 60, 3) := dk_181 0 60 (dk_at dksX8_init_5 15 rfl rfl)
theorem dX8_init_136 : decode cX8_init 136 = .ok (.aload_n 0, 1) := dk_42 (dk_at dksX8_init_5 18 rfl rfl)
theorem dX8_init_137 : decode cX8_init 137 = .ok (.bipush 16, 2) := dk_16 16 (dk_at dksX8_init_5 19 rfl rfl)
theorem dX8_init_139 : decode cX8_init 139 = .ok (.newarray .int, 2) := dk_188_10 (dk_at dksX8_init_5 21 rfl rfl)
theorem dX8_init_141 : decode cX8_init 141 = .ok (.putfield 63, 3) := dk_181 0 63 (dk_at dksX8_init_6 0 rfl rfl)
theorem dX8_init_144 : decode cX8_init 144 = .ok (.aload_n 0, 1) := dk_42 (dk_at dksX8_init_6 3 rfl rfl)
theorem dX8_init_145 : decode cX8_init 145 = .ok (.iconst 5, 1) := dk_8 (dk_at dksX8_init_6 4 rfl rfl)
theorem dX8_init_146 : decode cX8_init 146 = .ok (.newarray .long, 2) := dk_188_11 (dk_at dksX8_init_6 5 rfl rfl)
theorem dX8_init_148 : decode cX8_init 148 = .ok (.putfield 66, 3) := dk_181 0 66 (dk_at dksX8_init_6 7 rfl rfl)
theorem dX8_init_151 : decode cX8_init 151 = .ok (.aload_n 0, 1) := dk_42 (dk_at dksX8_init_6 10 rfl rfl)
theorem dX8_init_152 : decode cX8_init 152 = .ok (.iconst 5, 1) := dk_8 (dk_at dksX8_init_6 11 rfl rfl)
theorem dX8_init_153 : decode cX8_init 153 = .ok (.newarray .long, 2) := dk_188_11 (dk_at dksX8_init_6 12 rfl rfl)
theorem dX8_init_155 : decode cX8_init 155 = .ok (.putfield 70, 3) := dk_181 0 70 (dk_at dksX8_init_6 14 rfl rfl)
theorem dX8_init_158 : decode cX8_init 158 = .ok (.return_, 1) := dk_177 (dk_at dksX8_init_6 17 rfl rfl)
abbrev cX8_thrown : ByteArray := prog_14_method_2_code
def yX8_thrown : MethodName := ⟨RX8, "thrown", "()I"⟩
theorem dX8_thrown_0 : decode cX8_thrown 0 = .ok (.aload_n 0, 1) := by decide +kernel
theorem dX8_thrown_1 : decode cX8_thrown 1 = .ok (.getfield 73, 3) := by decide +kernel
theorem dX8_thrown_4 : decode cX8_thrown 4 = .ok (.ireturn, 1) := by decide +kernel
abbrev cX8_feed : ByteArray := prog_14_method_31_code
def yX8_feed : MethodName := ⟨RX8, "feed", "(IIIII)I"⟩
def dkwX8_feed_5 : List UInt8 := [180, 1, 24, 172]
abbrev dktX8_feed_5 : List UInt8 := dkwX8_feed_5 ++ []
def dkwX8_feed_4 : List UInt8 := [112, 104, 100, 122, 145, 84, 42, 89, 180, 1, 24, 4, 96, 181, 1, 24, 132, 6, 1, 167, 255, 165, 42]
abbrev dktX8_feed_4 : List UInt8 := dkwX8_feed_4 ++ dktX8_feed_5
def dkwX8_feed_3 : List UInt8 := [167, 0, 5, 21, 5, 54, 7, 42, 180, 0, 13, 42, 180, 1, 24, 21, 7, 16, 24, 16, 8, 21, 6, 7]
abbrev dktX8_feed_3 : List UInt8 := dkwX8_feed_3 ++ dktX8_feed_4
def dkwX8_feed_2 : List UInt8 := [28, 167, 0, 28, 21, 6, 16, 12, 162, 0, 7, 29, 167, 0, 17, 21, 6, 16, 16, 162, 0, 8, 21, 4]
abbrev dktX8_feed_2 : List UInt8 := dkwX8_feed_2 ++ dktX8_feed_3
def dkwX8_feed_1 : List UInt8 := [21, 6, 16, 20, 162, 0, 90, 21, 6, 7, 162, 0, 7, 27, 167, 0, 39, 21, 6, 16, 8, 162, 0, 7]
abbrev dktX8_feed_1 : List UInt8 := dkwX8_feed_1 ++ dktX8_feed_2
def dkwX8_feed_0 : List UInt8 := [42, 3, 181, 0, 73, 42, 180, 1, 24, 16, 20, 96, 17, 2, 188, 164, 0, 5, 2, 172, 3, 54, 6]
abbrev dktX8_feed_0 : List UInt8 := dkwX8_feed_0 ++ dktX8_feed_1
theorem dksX8_feed_0 : cX8_feed.data.toList.drop 0 = dktX8_feed_0 := by decide +kernel
theorem dksX8_feed_1 : cX8_feed.data.toList.drop 23 = dktX8_feed_1 := dk_seg dksX8_feed_0 23 rfl rfl
theorem dksX8_feed_2 : cX8_feed.data.toList.drop 47 = dktX8_feed_2 := dk_seg dksX8_feed_1 24 rfl rfl
theorem dksX8_feed_3 : cX8_feed.data.toList.drop 71 = dktX8_feed_3 := dk_seg dksX8_feed_2 24 rfl rfl
theorem dksX8_feed_4 : cX8_feed.data.toList.drop 95 = dktX8_feed_4 := dk_seg dksX8_feed_3 24 rfl rfl
theorem dksX8_feed_5 : cX8_feed.data.toList.drop 118 = dktX8_feed_5 := dk_seg dksX8_feed_4 23 rfl rfl
theorem dX8_feed_0 : decode cX8_feed 0 = .ok (.aload_n 0, 1) := dk_42 (dk_at dksX8_feed_0 0 rfl rfl)
theorem dX8_feed_1 : decode cX8_feed 1 = .ok (.iconst 0, 1) := dk_3 (dk_at dksX8_feed_0 1 rfl rfl)
theorem dX8_feed_2 : decode cX8_feed 2 = .ok (.putfield 73, 3) := dk_181 0 73 (dk_at dksX8_feed_0 2 rfl rfl)
theorem dX8_feed_5 : decode cX8_feed 5 = .ok (.aload_n 0, 1) := dk_42 (dk_at dksX8_feed_0 5 rfl rfl)
theorem dX8_feed_6 : decode cX8_feed 6 = .ok (.getfield 280, 3) := dk_180 1 24 (dk_at dksX8_feed_0 6 rfl rfl)
theorem dX8_feed_9 : decode cX8_feed 9 = .ok (.bipush 20, 2) := dk_16 20 (dk_at dksX8_feed_0 9 rfl rfl)
theorem dX8_feed_11 : decode cX8_feed 11 = .ok (.iadd, 1) := dk_96 (dk_at dksX8_feed_0 11 rfl rfl)
theorem dX8_feed_12 : decode cX8_feed 12 = .ok (.sipush 700, 3) := dk_17 2 188 (dk_at dksX8_feed_0 12 rfl rfl)
theorem dX8_feed_15 : decode cX8_feed 15 = .ok (.if_icmp .le 5, 3) := dk_164 0 5 (dk_at dksX8_feed_0 15 rfl rfl)
theorem dX8_feed_18 : decode cX8_feed 18 = .ok (.iconst (-1), 1) := dk_2 (dk_at dksX8_feed_0 18 rfl rfl)
theorem dX8_feed_19 : decode cX8_feed 19 = .ok (.ireturn, 1) := dk_172 (dk_at dksX8_feed_0 19 rfl rfl)
theorem dX8_feed_20 : decode cX8_feed 20 = .ok (.iconst 0, 1) := dk_3 (dk_at dksX8_feed_0 20 rfl rfl)
theorem dX8_feed_21 : decode cX8_feed 21 = .ok (.istore 6, 2) := dk_54 6 (dk_at dksX8_feed_0 21 rfl rfl)
theorem dX8_feed_23 : decode cX8_feed 23 = .ok (.iload 6, 2) := dk_21 6 (dk_at dksX8_feed_1 0 rfl rfl)
theorem dX8_feed_25 : decode cX8_feed 25 = .ok (.bipush 20, 2) := dk_16 20 (dk_at dksX8_feed_1 2 rfl rfl)
theorem dX8_feed_27 : decode cX8_feed 27 = .ok (.if_icmp .ge 90, 3) := dk_162 0 90 (dk_at dksX8_feed_1 4 rfl rfl)
theorem dX8_feed_30 : decode cX8_feed 30 = .ok (.iload 6, 2) := dk_21 6 (dk_at dksX8_feed_1 7 rfl rfl)
theorem dX8_feed_32 : decode cX8_feed 32 = .ok (.iconst 4, 1) := dk_7 (dk_at dksX8_feed_1 9 rfl rfl)
theorem dX8_feed_33 : decode cX8_feed 33 = .ok (.if_icmp .ge 7, 3) := dk_162 0 7 (dk_at dksX8_feed_1 10 rfl rfl)
theorem dX8_feed_36 : decode cX8_feed 36 = .ok (.iload_n 1, 1) := dk_27 (dk_at dksX8_feed_1 13 rfl rfl)
theorem dX8_feed_37 : decode cX8_feed 37 = .ok (.goto 39, 3) := dk_167 0 39 (dk_at dksX8_feed_1 14 rfl rfl)
theorem dX8_feed_40 : decode cX8_feed 40 = .ok (.iload 6, 2) := dk_21 6 (dk_at dksX8_feed_1 17 rfl rfl)
theorem dX8_feed_42 : decode cX8_feed 42 = .ok (.bipush 8, 2) := dk_16 8 (dk_at dksX8_feed_1 19 rfl rfl)
theorem dX8_feed_44 : decode cX8_feed 44 = .ok (.if_icmp .ge 7, 3) := dk_162 0 7 (dk_at dksX8_feed_1 21 rfl rfl)
theorem dX8_feed_47 : decode cX8_feed 47 = .ok (.iload_n 2, 1) := dk_28 (dk_at dksX8_feed_2 0 rfl rfl)
theorem dX8_feed_48 : decode cX8_feed 48 = .ok (.goto 28, 3) := dk_167 0 28 (dk_at dksX8_feed_2 1 rfl rfl)
theorem dX8_feed_51 : decode cX8_feed 51 = .ok (.iload 6, 2) := dk_21 6 (dk_at dksX8_feed_2 4 rfl rfl)
theorem dX8_feed_53 : decode cX8_feed 53 = .ok (.bipush 12, 2) := dk_16 12 (dk_at dksX8_feed_2 6 rfl rfl)
theorem dX8_feed_55 : decode cX8_feed 55 = .ok (.if_icmp .ge 7, 3) := dk_162 0 7 (dk_at dksX8_feed_2 8 rfl rfl)
theorem dX8_feed_58 : decode cX8_feed 58 = .ok (.iload_n 3, 1) := dk_29 (dk_at dksX8_feed_2 11 rfl rfl)
theorem dX8_feed_59 : decode cX8_feed 59 = .ok (.goto 17, 3) := dk_167 0 17 (dk_at dksX8_feed_2 12 rfl rfl)
theorem dX8_feed_62 : decode cX8_feed 62 = .ok (.iload 6, 2) := dk_21 6 (dk_at dksX8_feed_2 15 rfl rfl)
theorem dX8_feed_64 : decode cX8_feed 64 = .ok (.bipush 16, 2) := dk_16 16 (dk_at dksX8_feed_2 17 rfl rfl)
theorem dX8_feed_66 : decode cX8_feed 66 = .ok (.if_icmp .ge 8, 3) := dk_162 0 8 (dk_at dksX8_feed_2 19 rfl rfl)
theorem dX8_feed_69 : decode cX8_feed 69 = .ok (.iload 4, 2) := dk_21 4 (dk_at dksX8_feed_2 22 rfl rfl)
theorem dX8_feed_71 : decode cX8_feed 71 = .ok (.goto 5, 3) := dk_167 0 5 (dk_at dksX8_feed_3 0 rfl rfl)
theorem dX8_feed_74 : decode cX8_feed 74 = .ok (.iload 5, 2) := dk_21 5 (dk_at dksX8_feed_3 3 rfl rfl)
theorem dX8_feed_76 : decode cX8_feed 76 = .ok (.istore 7, 2) := dk_54 7 (dk_at dksX8_feed_3 5 rfl rfl)
theorem dX8_feed_78 : decode cX8_feed 78 = .ok (.aload_n 0, 1) := dk_42 (dk_at dksX8_feed_3 7 rfl rfl)
theorem dX8_feed_79 : decode cX8_feed 79 = .ok (.getfield 13, 3) := dk_180 0 13 (dk_at dksX8_feed_3 8 rfl rfl)
theorem dX8_feed_82 : decode cX8_feed 82 = .ok (.aload_n 0, 1) := dk_42 (dk_at dksX8_feed_3 11 rfl rfl)
theorem dX8_feed_83 : decode cX8_feed 83 = .ok (.getfield 280, 3) := dk_180 1 24 (dk_at dksX8_feed_3 12 rfl rfl)
theorem dX8_feed_86 : decode cX8_feed 86 = .ok (.iload 7, 2) := dk_21 7 (dk_at dksX8_feed_3 15 rfl rfl)
theorem dX8_feed_88 : decode cX8_feed 88 = .ok (.bipush 24, 2) := dk_16 24 (dk_at dksX8_feed_3 17 rfl rfl)
theorem dX8_feed_90 : decode cX8_feed 90 = .ok (.bipush 8, 2) := dk_16 8 (dk_at dksX8_feed_3 19 rfl rfl)
theorem dX8_feed_92 : decode cX8_feed 92 = .ok (.iload 6, 2) := dk_21 6 (dk_at dksX8_feed_3 21 rfl rfl)
theorem dX8_feed_94 : decode cX8_feed 94 = .ok (.iconst 4, 1) := dk_7 (dk_at dksX8_feed_3 23 rfl rfl)
theorem dX8_feed_95 : decode cX8_feed 95 = .ok (.irem, 1) := dk_112 (dk_at dksX8_feed_4 0 rfl rfl)
theorem dX8_feed_96 : decode cX8_feed 96 = .ok (.imul, 1) := dk_104 (dk_at dksX8_feed_4 1 rfl rfl)
theorem dX8_feed_97 : decode cX8_feed 97 = .ok (.isub, 1) := dk_100 (dk_at dksX8_feed_4 2 rfl rfl)
theorem dX8_feed_98 : decode cX8_feed 98 = .ok (.ishr, 1) := dk_122 (dk_at dksX8_feed_4 3 rfl rfl)
theorem dX8_feed_99 : decode cX8_feed 99 = .ok (.i2b, 1) := dk_145 (dk_at dksX8_feed_4 4 rfl rfl)
theorem dX8_feed_100 : decode cX8_feed 100 = .ok (.bastore, 1) := dk_84 (dk_at dksX8_feed_4 5 rfl rfl)
theorem dX8_feed_101 : decode cX8_feed 101 = .ok (.aload_n 0, 1) := dk_42 (dk_at dksX8_feed_4 6 rfl rfl)
theorem dX8_feed_102 : decode cX8_feed 102 = .ok (.dup, 1) := dk_89 (dk_at dksX8_feed_4 7 rfl rfl)
theorem dX8_feed_103 : decode cX8_feed 103 = .ok (.getfield 280, 3) := dk_180 1 24 (dk_at dksX8_feed_4 8 rfl rfl)
theorem dX8_feed_106 : decode cX8_feed 106 = .ok (.iconst 1, 1) := dk_4 (dk_at dksX8_feed_4 11 rfl rfl)
theorem dX8_feed_107 : decode cX8_feed 107 = .ok (.iadd, 1) := dk_96 (dk_at dksX8_feed_4 12 rfl rfl)
theorem dX8_feed_108 : decode cX8_feed 108 = .ok (.putfield 280, 3) := dk_181 1 24 (dk_at dksX8_feed_4 13 rfl rfl)
theorem dX8_feed_111 : decode cX8_feed 111 = .ok (.iinc 6 1, 3) := dk_132 6 1 (dk_at dksX8_feed_4 16 rfl rfl)
theorem dX8_feed_114 : decode cX8_feed 114 = .ok (.goto (-91), 3) := dk_167 255 165 (dk_at dksX8_feed_4 19 rfl rfl)
theorem dX8_feed_117 : decode cX8_feed 117 = .ok (.aload_n 0, 1) := dk_42 (dk_at dksX8_feed_4 22 rfl rfl)
theorem dX8_feed_118 : decode cX8_feed 118 = .ok (.getfield 280, 3) := dk_180 1 24 (dk_at dksX8_feed_5 0 rfl rfl)
theorem dX8_feed_121 : decode cX8_feed 121 = .ok (.ireturn, 1) := dk_172 (dk_at dksX8_feed_5 3 rfl rfl)
abbrev cX8_mill : ByteArray := prog_14_method_32_code
def yX8_mill : MethodName := ⟨RX8, "mill", "(I)I"⟩
def dkwX8_mill_8 : List UInt8 := [181, 1, 40, 42, 3, 181, 1, 43, 42, 42, 180, 1, 34, 180, 0, 191, 182, 1, 46, 172]
abbrev dktX8_mill_8 : List UInt8 := dkwX8_mill_8 ++ []
def dkwX8_mill_7 : List UInt8 := [167, 255, 226, 42, 3, 181, 1, 37, 42, 180, 0, 60, 3, 3, 79, 42, 180, 0, 60, 4, 3, 79, 42, 3]
abbrev dktX8_mill_7 : List UInt8 := dkwX8_mill_7 ++ dktX8_mill_8
def dkwX8_mill_6 : List UInt8 := [42, 180, 0, 27, 28, 4, 79, 42, 180, 0, 30, 28, 4, 79, 42, 180, 0, 33, 28, 3, 79, 132, 2, 1]
abbrev dktX8_mill_6 : List UInt8 := dkwX8_mill_6 ++ dktX8_mill_7
def dkwX8_mill_5 : List UInt8 := [42, 180, 0, 17, 16, 34, 4, 79, 42, 180, 0, 17, 16, 35, 4, 79, 3, 61, 28, 16, 12, 162, 0, 30]
abbrev dktX8_mill_5 : List UInt8 := dkwX8_mill_5 ++ dktX8_mill_6
def dkwX8_mill_4 : List UInt8 := [181, 1, 34, 3, 61, 28, 16, 37, 162, 0, 16, 42, 180, 0, 17, 28, 3, 79, 132, 2, 1, 167, 255, 240]
abbrev dktX8_mill_4 : List UInt8 := dkwX8_mill_4 ++ dktX8_mill_5
def dkwX8_mill_3 : List UInt8 := [158, 0, 18, 42, 7, 181, 0, 76, 42, 42, 180, 0, 131, 181, 0, 9, 2, 172, 42, 42, 180, 0, 172]
abbrev dktX8_mill_3 : List UInt8 := dkwX8_mill_3 ++ dktX8_mill_4
def dkwX8_mill_2 : List UInt8 := [183, 1, 30, 181, 0, 172, 42, 3, 181, 0, 94, 42, 182, 0, 146, 42, 182, 1, 31, 42, 180, 0, 128]
abbrev dktX8_mill_2 : List UInt8 := dkwX8_mill_2 ++ dktX8_mill_3
def dkwX8_mill_1 : List UInt8 := [27, 181, 0, 79, 42, 3, 181, 1, 24, 42, 3, 181, 0, 97, 42, 3, 181, 0, 128, 42, 187, 0, 177, 89]
abbrev dktX8_mill_1 : List UInt8 := dkwX8_mill_1 ++ dktX8_mill_2
def dkwX8_mill_0 : List UInt8 := [42, 3, 181, 0, 73, 27, 155, 0, 11, 27, 42, 180, 1, 24, 164, 0, 9, 42, 5, 182, 1, 27, 172, 42]
abbrev dktX8_mill_0 : List UInt8 := dkwX8_mill_0 ++ dktX8_mill_1
theorem dksX8_mill_0 : cX8_mill.data.toList.drop 0 = dktX8_mill_0 := by decide +kernel
theorem dksX8_mill_1 : cX8_mill.data.toList.drop 24 = dktX8_mill_1 := dk_seg dksX8_mill_0 24 rfl rfl
theorem dksX8_mill_2 : cX8_mill.data.toList.drop 48 = dktX8_mill_2 := dk_seg dksX8_mill_1 24 rfl rfl
theorem dksX8_mill_3 : cX8_mill.data.toList.drop 71 = dktX8_mill_3 := dk_seg dksX8_mill_2 23 rfl rfl
theorem dksX8_mill_4 : cX8_mill.data.toList.drop 94 = dktX8_mill_4 := dk_seg dksX8_mill_3 23 rfl rfl
theorem dksX8_mill_5 : cX8_mill.data.toList.drop 118 = dktX8_mill_5 := dk_seg dksX8_mill_4 24 rfl rfl
theorem dksX8_mill_6 : cX8_mill.data.toList.drop 142 = dktX8_mill_6 := dk_seg dksX8_mill_5 24 rfl rfl
theorem dksX8_mill_7 : cX8_mill.data.toList.drop 166 = dktX8_mill_7 := dk_seg dksX8_mill_6 24 rfl rfl
theorem dksX8_mill_8 : cX8_mill.data.toList.drop 190 = dktX8_mill_8 := dk_seg dksX8_mill_7 24 rfl rfl
theorem dX8_mill_0 : decode cX8_mill 0 = .ok (.aload_n 0, 1) := dk_42 (dk_at dksX8_mill_0 0 rfl rfl)
theorem dX8_mill_1 : decode cX8_mill 1 = .ok (.iconst 0, 1) := dk_3 (dk_at dksX8_mill_0 1 rfl rfl)
theorem dX8_mill_2 : decode cX8_mill 2 = .ok (.putfield 73, 3) := dk_181 0 73 (dk_at dksX8_mill_0 2 rfl rfl)
theorem dX8_mill_5 : decode cX8_mill 5 = .ok (.iload_n 1, 1) := dk_27 (dk_at dksX8_mill_0 5 rfl rfl)
theorem dX8_mill_6 : decode cX8_mill 6 = .ok (.ifCond .lt 11, 3) := dk_155 0 11 (dk_at dksX8_mill_0 6 rfl rfl)
theorem dX8_mill_9 : decode cX8_mill 9 = .ok (.iload_n 1, 1) := dk_27 (dk_at dksX8_mill_0 9 rfl rfl)
theorem dX8_mill_10 : decode cX8_mill 10 = .ok (.aload_n 0, 1) := dk_42 (dk_at dksX8_mill_0 10 rfl rfl)
theorem dX8_mill_11 : decode cX8_mill 11 = .ok (.getfield 280, 3) := dk_180 1 24 (dk_at dksX8_mill_0 11 rfl rfl)
theorem dX8_mill_14 : decode cX8_mill 14 = .ok (.if_icmp .le 9, 3) := dk_164 0 9 (dk_at dksX8_mill_0 14 rfl rfl)
theorem dX8_mill_17 : decode cX8_mill 17 = .ok (.aload_n 0, 1) := dk_42 (dk_at dksX8_mill_0 17 rfl rfl)
theorem dX8_mill_18 : decode cX8_mill 18 = .ok (.iconst 2, 1) := dk_5 (dk_at dksX8_mill_0 18 rfl rfl)
theorem dX8_mill_19 : decode cX8_mill 19 = .ok (.invokevirtual 283, 3) := dk_182 1 27 (dk_at dksX8_mill_0 19 rfl rfl)
theorem dX8_mill_22 : decode cX8_mill 22 = .ok (.ireturn, 1) := dk_172 (dk_at dksX8_mill_0 22 rfl rfl)
theorem dX8_mill_23 : decode cX8_mill 23 = .ok (.aload_n 0, 1) := dk_42 (dk_at dksX8_mill_0 23 rfl rfl)
theorem dX8_mill_24 : decode cX8_mill 24 = .ok (.iload_n 1, 1) := dk_27 (dk_at dksX8_mill_1 0 rfl rfl)
theorem dX8_mill_25 : decode cX8_mill 25 = .ok (.putfield 79, 3) := dk_181 0 79 (dk_at dksX8_mill_1 1 rfl rfl)
theorem dX8_mill_28 : decode cX8_mill 28 = .ok (.aload_n 0, 1) := dk_42 (dk_at dksX8_mill_1 4 rfl rfl)
theorem dX8_mill_29 : decode cX8_mill 29 = .ok (.iconst 0, 1) := dk_3 (dk_at dksX8_mill_1 5 rfl rfl)
theorem dX8_mill_30 : decode cX8_mill 30 = .ok (.putfield 280, 3) := dk_181 1 24 (dk_at dksX8_mill_1 6 rfl rfl)
theorem dX8_mill_33 : decode cX8_mill 33 = .ok (.aload_n 0, 1) := dk_42 (dk_at dksX8_mill_1 9 rfl rfl)
theorem dX8_mill_34 : decode cX8_mill 34 = .ok (.iconst 0, 1) := dk_3 (dk_at dksX8_mill_1 10 rfl rfl)
theorem dX8_mill_35 : decode cX8_mill 35 = .ok (.putfield 97, 3) := dk_181 0 97 (dk_at dksX8_mill_1 11 rfl rfl)
theorem dX8_mill_38 : decode cX8_mill 38 = .ok (.aload_n 0, 1) := dk_42 (dk_at dksX8_mill_1 14 rfl rfl)
theorem dX8_mill_39 : decode cX8_mill 39 = .ok (.iconst 0, 1) := dk_3 (dk_at dksX8_mill_1 15 rfl rfl)
theorem dX8_mill_40 : decode cX8_mill 40 = .ok (.putfield 128, 3) := dk_181 0 128 (dk_at dksX8_mill_1 16 rfl rfl)
theorem dX8_mill_43 : decode cX8_mill 43 = .ok (.aload_n 0, 1) := dk_42 (dk_at dksX8_mill_1 19 rfl rfl)
theorem dX8_mill_44 : decode cX8_mill 44 = .ok (.new 177, 3) := dk_187 0 177 (dk_at dksX8_mill_1 20 rfl rfl)
theorem dX8_mill_47 : decode cX8_mill 47 = .ok (.dup, 1) := dk_89 (dk_at dksX8_mill_1 23 rfl rfl)
theorem dX8_mill_48 : decode cX8_mill 48 = .ok (.invokespecial 286, 3) := dk_183 1 30 (dk_at dksX8_mill_2 0 rfl rfl)
theorem dX8_mill_51 : decode cX8_mill 51 = .ok (.putfield 172, 3) := dk_181 0 172 (dk_at dksX8_mill_2 3 rfl rfl)
theorem dX8_mill_54 : decode cX8_mill 54 = .ok (.aload_n 0, 1) := dk_42 (dk_at dksX8_mill_2 6 rfl rfl)
theorem dX8_mill_55 : decode cX8_mill 55 = .ok (.iconst 0, 1) := dk_3 (dk_at dksX8_mill_2 7 rfl rfl)
theorem dX8_mill_56 : decode cX8_mill 56 = .ok (.putfield 94, 3) := dk_181 0 94 (dk_at dksX8_mill_2 8 rfl rfl)
theorem dX8_mill_59 : decode cX8_mill 59 = .ok (.aload_n 0, 1) := dk_42 (dk_at dksX8_mill_2 11 rfl rfl)
theorem dX8_mill_60 : decode cX8_mill 60 = .ok (.invokevirtual 146, 3) := dk_182 0 146 (dk_at dksX8_mill_2 12 rfl rfl)
theorem dX8_mill_63 : decode cX8_mill 63 = .ok (.aload_n 0, 1) := dk_42 (dk_at dksX8_mill_2 15 rfl rfl)
theorem dX8_mill_64 : decode cX8_mill 64 = .ok (.invokevirtual 287, 3) := dk_182 1 31 (dk_at dksX8_mill_2 16 rfl rfl)
theorem dX8_mill_67 : decode cX8_mill 67 = .ok (.aload_n 0, 1) := dk_42 (dk_at dksX8_mill_2 19 rfl rfl)
theorem dX8_mill_68 : decode cX8_mill 68 = .ok (.getfield 128, 3) := dk_180 0 128 (dk_at dksX8_mill_2 20 rfl rfl)
theorem dX8_mill_71 : decode cX8_mill 71 = .ok (.ifCond .le 18, 3) := dk_158 0 18 (dk_at dksX8_mill_3 0 rfl rfl)
theorem dX8_mill_74 : decode cX8_mill 74 = .ok (.aload_n 0, 1) := dk_42 (dk_at dksX8_mill_3 3 rfl rfl)
theorem dX8_mill_75 : decode cX8_mill 75 = .ok (.iconst 4, 1) := dk_7 (dk_at dksX8_mill_3 4 rfl rfl)
theorem dX8_mill_76 : decode cX8_mill 76 = .ok (.putfield 76, 3) := dk_181 0 76 (dk_at dksX8_mill_3 5 rfl rfl)
theorem dX8_mill_79 : decode cX8_mill 79 = .ok (.aload_n 0, 1) := dk_42 (dk_at dksX8_mill_3 8 rfl rfl)
theorem dX8_mill_80 : decode cX8_mill 80 = .ok (.aload_n 0, 1) := dk_42 (dk_at dksX8_mill_3 9 rfl rfl)
theorem dX8_mill_81 : decode cX8_mill 81 = .ok (.getfield 131, 3) := dk_180 0 131 (dk_at dksX8_mill_3 10 rfl rfl)
theorem dX8_mill_84 : decode cX8_mill 84 = .ok (.putfield 9, 3) := dk_181 0 9 (dk_at dksX8_mill_3 13 rfl rfl)
theorem dX8_mill_87 : decode cX8_mill 87 = .ok (.iconst (-1), 1) := dk_2 (dk_at dksX8_mill_3 16 rfl rfl)
theorem dX8_mill_88 : decode cX8_mill 88 = .ok (.ireturn, 1) := dk_172 (dk_at dksX8_mill_3 17 rfl rfl)
theorem dX8_mill_89 : decode cX8_mill 89 = .ok (.aload_n 0, 1) := dk_42 (dk_at dksX8_mill_3 18 rfl rfl)
theorem dX8_mill_90 : decode cX8_mill 90 = .ok (.aload_n 0, 1) := dk_42 (dk_at dksX8_mill_3 19 rfl rfl)
theorem dX8_mill_91 : decode cX8_mill 91 = .ok (.getfield 172, 3) := dk_180 0 172 (dk_at dksX8_mill_3 20 rfl rfl)
theorem dX8_mill_94 : decode cX8_mill 94 = .ok (.putfield 290, 3) := dk_181 1 34 (dk_at dksX8_mill_4 0 rfl rfl)
theorem dX8_mill_97 : decode cX8_mill 97 = .ok (.iconst 0, 1) := dk_3 (dk_at dksX8_mill_4 3 rfl rfl)
theorem dX8_mill_98 : decode cX8_mill 98 = .ok (.istore_n 2, 1) := dk_61 (dk_at dksX8_mill_4 4 rfl rfl)
theorem dX8_mill_99 : decode cX8_mill 99 = .ok (.iload_n 2, 1) := dk_28 (dk_at dksX8_mill_4 5 rfl rfl)
theorem dX8_mill_100 : decode cX8_mill 100 = .ok (.bipush 37, 2) := dk_16 37 (dk_at dksX8_mill_4 6 rfl rfl)
theorem dX8_mill_102 : decode cX8_mill 102 = .ok (.if_icmp .ge 16, 3) := dk_162 0 16 (dk_at dksX8_mill_4 8 rfl rfl)
theorem dX8_mill_105 : decode cX8_mill 105 = .ok (.aload_n 0, 1) := dk_42 (dk_at dksX8_mill_4 11 rfl rfl)
theorem dX8_mill_106 : decode cX8_mill 106 = .ok (.getfield 17, 3) := dk_180 0 17 (dk_at dksX8_mill_4 12 rfl rfl)
theorem dX8_mill_109 : decode cX8_mill 109 = .ok (.iload_n 2, 1) := dk_28 (dk_at dksX8_mill_4 15 rfl rfl)
theorem dX8_mill_110 : decode cX8_mill 110 = .ok (.iconst 0, 1) := dk_3 (dk_at dksX8_mill_4 16 rfl rfl)
theorem dX8_mill_111 : decode cX8_mill 111 = .ok (.iastore, 1) := dk_79 (dk_at dksX8_mill_4 17 rfl rfl)
theorem dX8_mill_112 : decode cX8_mill 112 = .ok (.iinc 2 1, 3) := dk_132 2 1 (dk_at dksX8_mill_4 18 rfl rfl)
theorem dX8_mill_115 : decode cX8_mill 115 = .ok (.goto (-16), 3) := dk_167 255 240 (dk_at dksX8_mill_4 21 rfl rfl)
theorem dX8_mill_118 : decode cX8_mill 118 = .ok (.aload_n 0, 1) := dk_42 (dk_at dksX8_mill_5 0 rfl rfl)
theorem dX8_mill_119 : decode cX8_mill 119 = .ok (.getfield 17, 3) := dk_180 0 17 (dk_at dksX8_mill_5 1 rfl rfl)
theorem dX8_mill_122 : decode cX8_mill 122 = .ok (.bipush 34, 2) := dk_16 34 (dk_at dksX8_mill_5 4 rfl rfl)
theorem dX8_mill_124 : decode cX8_mill 124 = .ok (.iconst 1, 1) := dk_4 (dk_at dksX8_mill_5 6 rfl rfl)
theorem dX8_mill_125 : decode cX8_mill 125 = .ok (.iastore, 1) := dk_79 (dk_at dksX8_mill_5 7 rfl rfl)
theorem dX8_mill_126 : decode cX8_mill 126 = .ok (.aload_n 0, 1) := dk_42 (dk_at dksX8_mill_5 8 rfl rfl)
theorem dX8_mill_127 : decode cX8_mill 127 = .ok (.getfield 17, 3) := dk_180 0 17 (dk_at dksX8_mill_5 9 rfl rfl)
theorem dX8_mill_130 : decode cX8_mill 130 = .ok (.bipush 35, 2) := dk_16 35 (dk_at dksX8_mill_5 12 rfl rfl)
theorem dX8_mill_132 : decode cX8_mill 132 = .ok (.iconst 1, 1) := dk_4 (dk_at dksX8_mill_5 14 rfl rfl)
theorem dX8_mill_133 : decode cX8_mill 133 = .ok (.iastore, 1) := dk_79 (dk_at dksX8_mill_5 15 rfl rfl)
theorem dX8_mill_134 : decode cX8_mill 134 = .ok (.iconst 0, 1) := dk_3 (dk_at dksX8_mill_5 16 rfl rfl)
theorem dX8_mill_135 : decode cX8_mill 135 = .ok (.istore_n 2, 1) := dk_61 (dk_at dksX8_mill_5 17 rfl rfl)
theorem dX8_mill_136 : decode cX8_mill 136 = .ok (.iload_n 2, 1) := dk_28 (dk_at dksX8_mill_5 18 rfl rfl)
theorem dX8_mill_137 : decode cX8_mill 137 = .ok (.bipush 12, 2) := dk_16 12 (dk_at dksX8_mill_5 19 rfl rfl)
theorem dX8_mill_139 : decode cX8_mill 139 = .ok (.if_icmp .ge 30, 3) := dk_162 0 30 (dk_at dksX8_mill_5 21 rfl rfl)
theorem dX8_mill_142 : decode cX8_mill 142 = .ok (.aload_n 0, 1) := dk_42 (dk_at dksX8_mill_6 0 rfl rfl)
theorem dX8_mill_143 : decode cX8_mill 143 = .ok (.getfield 27, 3) := dk_180 0 27 (dk_at dksX8_mill_6 1 rfl rfl)
theorem dX8_mill_146 : decode cX8_mill 146 = .ok (.iload_n 2, 1) := dk_28 (dk_at dksX8_mill_6 4 rfl rfl)
theorem dX8_mill_147 : decode cX8_mill 147 = .ok (.iconst 1, 1) := dk_4 (dk_at dksX8_mill_6 5 rfl rfl)
theorem dX8_mill_148 : decode cX8_mill 148 = .ok (.iastore, 1) := dk_79 (dk_at dksX8_mill_6 6 rfl rfl)
theorem dX8_mill_149 : decode cX8_mill 149 = .ok (.aload_n 0, 1) := dk_42 (dk_at dksX8_mill_6 7 rfl rfl)
theorem dX8_mill_150 : decode cX8_mill 150 = .ok (.getfield 30, 3) := dk_180 0 30 (dk_at dksX8_mill_6 8 rfl rfl)
theorem dX8_mill_153 : decode cX8_mill 153 = .ok (.iload_n 2, 1) := dk_28 (dk_at dksX8_mill_6 11 rfl rfl)
theorem dX8_mill_154 : decode cX8_mill 154 = .ok (.iconst 1, 1) := dk_4 (dk_at dksX8_mill_6 12 rfl rfl)
theorem dX8_mill_155 : decode cX8_mill 155 = .ok (.iastore, 1) := dk_79 (dk_at dksX8_mill_6 13 rfl rfl)
theorem dX8_mill_156 : decode cX8_mill 156 = .ok (.aload_n 0, 1) := dk_42 (dk_at dksX8_mill_6 14 rfl rfl)
theorem dX8_mill_157 : decode cX8_mill 157 = .ok (.getfield 33, 3) := dk_180 0 33 (dk_at dksX8_mill_6 15 rfl rfl)
theorem dX8_mill_160 : decode cX8_mill 160 = .ok (.iload_n 2, 1) := dk_28 (dk_at dksX8_mill_6 18 rfl rfl)
theorem dX8_mill_161 : decode cX8_mill 161 = .ok (.iconst 0, 1) := dk_3 (dk_at dksX8_mill_6 19 rfl rfl)
theorem dX8_mill_162 : decode cX8_mill 162 = .ok (.iastore, 1) := dk_79 (dk_at dksX8_mill_6 20 rfl rfl)
theorem dX8_mill_163 : decode cX8_mill 163 = .ok (.iinc 2 1, 3) := dk_132 2 1 (dk_at dksX8_mill_6 21 rfl rfl)
theorem dX8_mill_166 : decode cX8_mill 166 = .ok (.goto (-30), 3) := dk_167 255 226 (dk_at dksX8_mill_7 0 rfl rfl)
theorem dX8_mill_169 : decode cX8_mill 169 = .ok (.aload_n 0, 1) := dk_42 (dk_at dksX8_mill_7 3 rfl rfl)
theorem dX8_mill_170 : decode cX8_mill 170 = .ok (.iconst 0, 1) := dk_3 (dk_at dksX8_mill_7 4 rfl rfl)
theorem dX8_mill_171 : decode cX8_mill 171 = .ok (.putfield 293, 3) := dk_181 1 37 (dk_at dksX8_mill_7 5 rfl rfl)
theorem dX8_mill_174 : decode cX8_mill 174 = .ok (.aload_n 0, 1) := dk_42 (dk_at dksX8_mill_7 8 rfl rfl)
theorem dX8_mill_175 : decode cX8_mill 175 = .ok (.getfield 60, 3) := dk_180 0 60 (dk_at dksX8_mill_7 9 rfl rfl)
theorem dX8_mill_178 : decode cX8_mill 178 = .ok (.iconst 0, 1) := dk_3 (dk_at dksX8_mill_7 12 rfl rfl)
theorem dX8_mill_179 : decode cX8_mill 179 = .ok (.iconst 0, 1) := dk_3 (dk_at dksX8_mill_7 13 rfl rfl)
theorem dX8_mill_180 : decode cX8_mill 180 = .ok (.iastore, 1) := dk_79 (dk_at dksX8_mill_7 14 rfl rfl)
theorem dX8_mill_181 : decode cX8_mill 181 = .ok (.aload_n 0, 1) := dk_42 (dk_at dksX8_mill_7 15 rfl rfl)
theorem dX8_mill_182 : decode cX8_mill 182 = .ok (.getfield 60, 3) := dk_180 0 60 (dk_at dksX8_mill_7 16 rfl rfl)
theorem dX8_mill_185 : decode cX8_mill 185 = .ok (.iconst 1, 1) := dk_4 (dk_at dksX8_mill_7 19 rfl rfl)
theorem dX8_mill_186 : decode cX8_mill 186 = .ok (.iconst 0, 1) := dk_3 (dk_at dksX8_mill_7 20 rfl rfl)
theorem dX8_mill_187 : decode cX8_mill 187 = .ok (.iastore, 1) := dk_79 (dk_at dksX8_mill_7 21 rfl rfl)
theorem dX8_mill_188 : decode cX8_mill 188 = .ok (.aload_n 0, 1) := dk_42 (dk_at dksX8_mill_7 22 rfl rfl)
theorem dX8_mill_189 : decode cX8_mill 189 = .ok (.iconst 0, 1) := dk_3 (dk_at dksX8_mill_7 23 rfl rfl)
theorem dX8_mill_190 : decode cX8_mill 190 = .ok (.putfield 296, 3) := dk_181 1 40 (dk_at dksX8_mill_8 0 rfl rfl)
theorem dX8_mill_193 : decode cX8_mill 193 = .ok (.aload_n 0, 1) := dk_42 (dk_at dksX8_mill_8 3 rfl rfl)
theorem dX8_mill_194 : decode cX8_mill 194 = .ok (.iconst 0, 1) := dk_3 (dk_at dksX8_mill_8 4 rfl rfl)
theorem dX8_mill_195 : decode cX8_mill 195 = .ok (.putfield 299, 3) := dk_181 1 43 (dk_at dksX8_mill_8 5 rfl rfl)
theorem dX8_mill_198 : decode cX8_mill 198 = .ok (.aload_n 0, 1) := dk_42 (dk_at dksX8_mill_8 8 rfl rfl)
theorem dX8_mill_199 : decode cX8_mill 199 = .ok (.aload_n 0, 1) := dk_42 (dk_at dksX8_mill_8 9 rfl rfl)
theorem dX8_mill_200 : decode cX8_mill 200 = .ok (.getfield 290, 3) := dk_180 1 34 (dk_at dksX8_mill_8 10 rfl rfl)
theorem dX8_mill_203 : decode cX8_mill 203 = .ok (.getfield 191, 3) := dk_180 0 191 (dk_at dksX8_mill_8 13 rfl rfl)
theorem dX8_mill_206 : decode cX8_mill 206 = .ok (.invokevirtual 302, 3) := dk_182 1 46 (dk_at dksX8_mill_8 16 rfl rfl)
theorem dX8_mill_209 : decode cX8_mill 209 = .ok (.ireturn, 1) := dk_172 (dk_at dksX8_mill_8 19 rfl rfl)
abbrev cX8_refused : ByteArray := prog_14_method_3_code
def yX8_refused : MethodName := ⟨RX8, "refused", "(I)I"⟩
def dkwX8_refused_0 : List UInt8 := [42, 27, 181, 0, 76, 42, 2, 181, 0, 9, 2, 172]
abbrev dktX8_refused_0 : List UInt8 := dkwX8_refused_0 ++ []
theorem dksX8_refused_0 : cX8_refused.data.toList.drop 0 = dktX8_refused_0 := by decide +kernel
theorem dX8_refused_0 : decode cX8_refused 0 = .ok (.aload_n 0, 1) := dk_42 (dk_at dksX8_refused_0 0 rfl rfl)
theorem dX8_refused_1 : decode cX8_refused 1 = .ok (.iload_n 1, 1) := dk_27 (dk_at dksX8_refused_0 1 rfl rfl)
theorem dX8_refused_2 : decode cX8_refused 2 = .ok (.putfield 76, 3) := dk_181 0 76 (dk_at dksX8_refused_0 2 rfl rfl)
theorem dX8_refused_5 : decode cX8_refused 5 = .ok (.aload_n 0, 1) := dk_42 (dk_at dksX8_refused_0 5 rfl rfl)
theorem dX8_refused_6 : decode cX8_refused 6 = .ok (.iconst (-1), 1) := dk_2 (dk_at dksX8_refused_0 6 rfl rfl)
theorem dX8_refused_7 : decode cX8_refused 7 = .ok (.putfield 9, 3) := dk_181 0 9 (dk_at dksX8_refused_0 7 rfl rfl)
theorem dX8_refused_10 : decode cX8_refused 10 = .ok (.iconst (-1), 1) := dk_2 (dk_at dksX8_refused_0 10 rfl rfl)
theorem dX8_refused_11 : decode cX8_refused 11 = .ok (.ireturn, 1) := dk_172 (dk_at dksX8_refused_0 11 rfl rfl)
abbrev cX8_next : ByteArray := prog_14_method_12_code
def yX8_next : MethodName := ⟨RX8, "next", "()V"⟩
def dkwX8_next_12 : List UInt8 := [181, 0, 97, 177]
abbrev dktX8_next_12 : List UInt8 := dkwX8_next_12 ++ []
def dkwX8_next_11 : List UInt8 := [16, 44, 160, 0, 23, 42, 7, 181, 0, 94, 42, 27, 181, 0, 107, 42, 89, 180, 0, 97, 4, 96]
abbrev dktX8_next_11 : List UInt8 := dkwX8_next_11 ++ dktX8_next_12
def dkwX8_next_10 : List UInt8 := [167, 255, 201, 28, 6, 163, 0, 43, 42, 6, 181, 0, 94, 167, 0, 35, 27, 16, 59, 159, 0, 9, 27]
abbrev dktX8_next_10 : List UInt8 := dkwX8_next_10 ++ dktX8_next_11
def dkwX8_next_9 : List UInt8 := [182, 0, 100, 96, 16, 48, 100, 181, 0, 121, 132, 2, 1, 42, 89, 180, 0, 97, 4, 96, 181, 0, 97]
abbrev dktX8_next_9 : List UInt8 := dkwX8_next_9 ++ dktX8_next_10
def dkwX8_next_8 : List UInt8 := [184, 0, 118, 153, 0, 47, 28, 6, 162, 0, 26, 42, 16, 10, 42, 180, 0, 121, 104, 42, 42, 180, 0, 97]
abbrev dktX8_next_8 : List UInt8 := dkwX8_next_8 ++ dktX8_next_9
def dkwX8_next_7 : List UInt8 := [167, 0, 118, 27, 184, 0, 118, 153, 0, 79, 42, 3, 181, 0, 121, 42, 42, 180, 0, 97, 182, 0, 100]
abbrev dktX8_next_7 : List UInt8 := dkwX8_next_7 ++ dktX8_next_8
def dkwX8_next_6 : List UInt8 := [180, 0, 97, 4, 96, 181, 0, 97, 167, 255, 196, 28, 16, 8, 163, 0, 126, 42, 5, 181, 0, 94]
abbrev dktX8_next_6 : List UInt8 := dkwX8_next_6 ++ dktX8_next_7
def dkwX8_next_5 : List UInt8 := [42, 42, 180, 0, 97, 182, 0, 100, 16, 97, 100, 4, 96, 133, 97, 181, 0, 114, 132, 2, 1, 42, 89]
abbrev dktX8_next_5 : List UInt8 := dkwX8_next_5 ++ dktX8_next_6
def dkwX8_next_4 : List UInt8 := [182, 0, 100, 184, 0, 110, 153, 0, 52, 28, 16, 8, 162, 0, 30, 42, 20, 0, 88, 42, 180, 0, 114, 105]
abbrev dktX8_next_4 : List UInt8 := dkwX8_next_4 ++ dktX8_next_5
def dkwX8_next_3 : List UInt8 := [181, 0, 94, 167, 0, 207, 27, 184, 0, 110, 153, 0, 85, 42, 9, 181, 0, 114, 42, 42, 180, 0, 97]
abbrev dktX8_next_3 : List UInt8 := dkwX8_next_3 ++ dktX8_next_4
def dkwX8_next_2 : List UInt8 := [42, 3, 181, 0, 107, 42, 42, 180, 0, 97, 182, 0, 100, 60, 3, 61, 27, 2, 160, 0, 11, 42, 4]
abbrev dktX8_next_2 : List UInt8 := dkwX8_next_2 ++ dktX8_next_3
def dkwX8_next_1 : List UInt8 := [180, 0, 97, 4, 96, 181, 0, 97, 167, 255, 233, 42, 42, 180, 0, 97, 181, 0, 104, 42, 3, 181, 0, 94]
abbrev dktX8_next_1 : List UInt8 := dkwX8_next_1 ++ dktX8_next_2
def dkwX8_next_0 : List UInt8 := [42, 180, 0, 94, 8, 160, 0, 4, 177, 42, 42, 180, 0, 97, 182, 0, 100, 16, 32, 160, 0, 16, 42, 89]
abbrev dktX8_next_0 : List UInt8 := dkwX8_next_0 ++ dktX8_next_1
theorem dksX8_next_0 : cX8_next.data.toList.drop 0 = dktX8_next_0 := by decide +kernel
theorem dksX8_next_1 : cX8_next.data.toList.drop 24 = dktX8_next_1 := dk_seg dksX8_next_0 24 rfl rfl
theorem dksX8_next_2 : cX8_next.data.toList.drop 48 = dktX8_next_2 := dk_seg dksX8_next_1 24 rfl rfl
theorem dksX8_next_3 : cX8_next.data.toList.drop 71 = dktX8_next_3 := dk_seg dksX8_next_2 23 rfl rfl
theorem dksX8_next_4 : cX8_next.data.toList.drop 94 = dktX8_next_4 := dk_seg dksX8_next_3 23 rfl rfl
theorem dksX8_next_5 : cX8_next.data.toList.drop 118 = dktX8_next_5 := dk_seg dksX8_next_4 24 rfl rfl
theorem dksX8_next_6 : cX8_next.data.toList.drop 141 = dktX8_next_6 := dk_seg dksX8_next_5 23 rfl rfl
theorem dksX8_next_7 : cX8_next.data.toList.drop 163 = dktX8_next_7 := dk_seg dksX8_next_6 22 rfl rfl
theorem dksX8_next_8 : cX8_next.data.toList.drop 186 = dktX8_next_8 := dk_seg dksX8_next_7 23 rfl rfl
theorem dksX8_next_9 : cX8_next.data.toList.drop 210 = dktX8_next_9 := dk_seg dksX8_next_8 24 rfl rfl
theorem dksX8_next_10 : cX8_next.data.toList.drop 233 = dktX8_next_10 := dk_seg dksX8_next_9 23 rfl rfl
theorem dksX8_next_11 : cX8_next.data.toList.drop 256 = dktX8_next_11 := dk_seg dksX8_next_10 23 rfl rfl
theorem dksX8_next_12 : cX8_next.data.toList.drop 278 = dktX8_next_12 := dk_seg dksX8_next_11 22 rfl rfl
theorem dX8_next_0 : decode cX8_next 0 = .ok (.aload_n 0, 1) := dk_42 (dk_at dksX8_next_0 0 rfl rfl)
theorem dX8_next_1 : decode cX8_next 1 = .ok (.getfield 94, 3) := dk_180 0 94 (dk_at dksX8_next_0 1 rfl rfl)
theorem dX8_next_4 : decode cX8_next 4 = .ok (.iconst 5, 1) := dk_8 (dk_at dksX8_next_0 4 rfl rfl)
theorem dX8_next_5 : decode cX8_next 5 = .ok (.if_icmp .ne 4, 3) := dk_160 0 4 (dk_at dksX8_next_0 5 rfl rfl)
theorem dX8_next_8 : decode cX8_next 8 = .ok (.return_, 1) := dk_177 (dk_at dksX8_next_0 8 rfl rfl)
theorem dX8_next_9 : decode cX8_next 9 = .ok (.aload_n 0, 1) := dk_42 (dk_at dksX8_next_0 9 rfl rfl)
theorem dX8_next_10 : decode cX8_next 10 = .ok (.aload_n 0, 1) := dk_42 (dk_at dksX8_next_0 10 rfl rfl)
theorem dX8_next_11 : decode cX8_next 11 = .ok (.getfield 97, 3) := dk_180 0 97 (dk_at dksX8_next_0 11 rfl rfl)
theorem dX8_next_14 : decode cX8_next 14 = .ok (.invokevirtual 100, 3) := dk_182 0 100 (dk_at dksX8_next_0 14 rfl rfl)
theorem dX8_next_17 : decode cX8_next 17 = .ok (.bipush 32, 2) := dk_16 32 (dk_at dksX8_next_0 17 rfl rfl)
theorem dX8_next_19 : decode cX8_next 19 = .ok (.if_icmp .ne 16, 3) := dk_160 0 16 (dk_at dksX8_next_0 19 rfl rfl)
theorem dX8_next_22 : decode cX8_next 22 = .ok (.aload_n 0, 1) := dk_42 (dk_at dksX8_next_0 22 rfl rfl)
theorem dX8_next_23 : decode cX8_next 23 = .ok (.dup, 1) := dk_89 (dk_at dksX8_next_0 23 rfl rfl)
theorem dX8_next_24 : decode cX8_next 24 = .ok (.getfield 97, 3) := dk_180 0 97 (dk_at dksX8_next_1 0 rfl rfl)
theorem dX8_next_27 : decode cX8_next 27 = .ok (.iconst 1, 1) := dk_4 (dk_at dksX8_next_1 3 rfl rfl)
theorem dX8_next_28 : decode cX8_next 28 = .ok (.iadd, 1) := dk_96 (dk_at dksX8_next_1 4 rfl rfl)
theorem dX8_next_29 : decode cX8_next 29 = .ok (.putfield 97, 3) := dk_181 0 97 (dk_at dksX8_next_1 5 rfl rfl)
theorem dX8_next_32 : decode cX8_next 32 = .ok (.goto (-23), 3) := dk_167 255 233 (dk_at dksX8_next_1 8 rfl rfl)
theorem dX8_next_35 : decode cX8_next 35 = .ok (.aload_n 0, 1) := dk_42 (dk_at dksX8_next_1 11 rfl rfl)
theorem dX8_next_36 : decode cX8_next 36 = .ok (.aload_n 0, 1) := dk_42 (dk_at dksX8_next_1 12 rfl rfl)
theorem dX8_next_37 : decode cX8_next 37 = .ok (.getfield 97, 3) := dk_180 0 97 (dk_at dksX8_next_1 13 rfl rfl)
theorem dX8_next_40 : decode cX8_next 40 = .ok (.putfield 104, 3) := dk_181 0 104 (dk_at dksX8_next_1 16 rfl rfl)
theorem dX8_next_43 : decode cX8_next 43 = .ok (.aload_n 0, 1) := dk_42 (dk_at dksX8_next_1 19 rfl rfl)
theorem dX8_next_44 : decode cX8_next 44 = .ok (.iconst 0, 1) := dk_3 (dk_at dksX8_next_1 20 rfl rfl)
theorem dX8_next_45 : decode cX8_next 45 = .ok (.putfield 94, 3) := dk_181 0 94 (dk_at dksX8_next_1 21 rfl rfl)
theorem dX8_next_48 : decode cX8_next 48 = .ok (.aload_n 0, 1) := dk_42 (dk_at dksX8_next_2 0 rfl rfl)
theorem dX8_next_49 : decode cX8_next 49 = .ok (.iconst 0, 1) := dk_3 (dk_at dksX8_next_2 1 rfl rfl)
theorem dX8_next_50 : decode cX8_next 50 = .ok (.putfield 107, 3) := dk_181 0 107 (dk_at dksX8_next_2 2 rfl rfl)
theorem dX8_next_53 : decode cX8_next 53 = .ok (.aload_n 0, 1) := dk_42 (dk_at dksX8_next_2 5 rfl rfl)
theorem dX8_next_54 : decode cX8_next 54 = .ok (.aload_n 0, 1) := dk_42 (dk_at dksX8_next_2 6 rfl rfl)
theorem dX8_next_55 : decode cX8_next 55 = .ok (.getfield 97, 3) := dk_180 0 97 (dk_at dksX8_next_2 7 rfl rfl)
theorem dX8_next_58 : decode cX8_next 58 = .ok (.invokevirtual 100, 3) := dk_182 0 100 (dk_at dksX8_next_2 10 rfl rfl)
theorem dX8_next_61 : decode cX8_next 61 = .ok (.istore_n 1, 1) := dk_60 (dk_at dksX8_next_2 13 rfl rfl)
theorem dX8_next_62 : decode cX8_next 62 = .ok (.iconst 0, 1) := dk_3 (dk_at dksX8_next_2 14 rfl rfl)
theorem dX8_next_63 : decode cX8_next 63 = .ok (.istore_n 2, 1) := dk_61 (dk_at dksX8_next_2 15 rfl rfl)
theorem dX8_next_64 : decode cX8_next 64 = .ok (.iload_n 1, 1) := dk_27 (dk_at dksX8_next_2 16 rfl rfl)
theorem dX8_next_65 : decode cX8_next 65 = .ok (.iconst (-1), 1) := dk_2 (dk_at dksX8_next_2 17 rfl rfl)
theorem dX8_next_66 : decode cX8_next 66 = .ok (.if_icmp .ne 11, 3) := dk_160 0 11 (dk_at dksX8_next_2 18 rfl rfl)
theorem dX8_next_69 : decode cX8_next 69 = .ok (.aload_n 0, 1) := dk_42 (dk_at dksX8_next_2 21 rfl rfl)
theorem dX8_next_70 : decode cX8_next 70 = .ok (.iconst 1, 1) := dk_4 (dk_at dksX8_next_2 22 rfl rfl)
theorem dX8_next_71 : decode cX8_next 71 = .ok (.putfield 94, 3) := dk_181 0 94 (dk_at dksX8_next_3 0 rfl rfl)
theorem dX8_next_74 : decode cX8_next 74 = .ok (.goto 207, 3) := dk_167 0 207 (dk_at dksX8_next_3 3 rfl rfl)
theorem dX8_next_77 : decode cX8_next 77 = .ok (.iload_n 1, 1) := dk_27 (dk_at dksX8_next_3 6 rfl rfl)
theorem dX8_next_78 : decode cX8_next 78 = .ok (.invokestatic 110, 3) := dk_184 0 110 (dk_at dksX8_next_3 7 rfl rfl)
theorem dX8_next_81 : decode cX8_next 81 = .ok (.ifCond .eq 85, 3) := dk_153 0 85 (dk_at dksX8_next_3 10 rfl rfl)
theorem dX8_next_84 : decode cX8_next 84 = .ok (.aload_n 0, 1) := dk_42 (dk_at dksX8_next_3 13 rfl rfl)
theorem dX8_next_85 : decode cX8_next 85 = .ok (.lconst 0, 1) := dk_9 (dk_at dksX8_next_3 14 rfl rfl)
theorem dX8_next_86 : decode cX8_next 86 = .ok (.putfield 114, 3) := dk_181 0 114 (dk_at dksX8_next_3 15 rfl rfl)
theorem dX8_next_89 : decode cX8_next 89 = .ok (.aload_n 0, 1) := dk_42 (dk_at dksX8_next_3 18 rfl rfl)
theorem dX8_next_90 : decode cX8_next 90 = .ok (.aload_n 0, 1) := dk_42 (dk_at dksX8_next_3 19 rfl rfl)
theorem dX8_next_91 : decode cX8_next 91 = .ok (.getfield 97, 3) := dk_180 0 97 (dk_at dksX8_next_3 20 rfl rfl)
theorem dX8_next_94 : decode cX8_next 94 = .ok (.invokevirtual 100, 3) := dk_182 0 100 (dk_at dksX8_next_4 0 rfl rfl)
theorem dX8_next_97 : decode cX8_next 97 = .ok (.invokestatic 110, 3) := dk_184 0 110 (dk_at dksX8_next_4 3 rfl rfl)
theorem dX8_next_100 : decode cX8_next 100 = .ok (.ifCond .eq 52, 3) := dk_153 0 52 (dk_at dksX8_next_4 6 rfl rfl)
theorem dX8_next_103 : decode cX8_next 103 = .ok (.iload_n 2, 1) := dk_28 (dk_at dksX8_next_4 9 rfl rfl)
theorem dX8_next_104 : decode cX8_next 104 = .ok (.bipush 8, 2) := dk_16 8 (dk_at dksX8_next_4 10 rfl rfl)
theorem dX8_next_106 : decode cX8_next 106 = .ok (.if_icmp .ge 30, 3) := dk_162 0 30 (dk_at dksX8_next_4 12 rfl rfl)
theorem dX8_next_109 : decode cX8_next 109 = .ok (.aload_n 0, 1) := dk_42 (dk_at dksX8_next_4 15 rfl rfl)
theorem dX8_next_110 : decode cX8_next 110 = .ok (.ldc2_w 88, 3) := dk_20 0 88 (dk_at dksX8_next_4 16 rfl rfl)
theorem dX8_next_113 : decode cX8_next 113 = .ok (.aload_n 0, 1) := dk_42 (dk_at dksX8_next_4 19 rfl rfl)
theorem dX8_next_114 : decode cX8_next 114 = .ok (.getfield 114, 3) := dk_180 0 114 (dk_at dksX8_next_4 20 rfl rfl)
theorem dX8_next_117 : decode cX8_next 117 = .ok (.lmul, 1) := dk_105 (dk_at dksX8_next_4 23 rfl rfl)
theorem dX8_next_118 : decode cX8_next 118 = .ok (.aload_n 0, 1) := dk_42 (dk_at dksX8_next_5 0 rfl rfl)
theorem dX8_next_119 : decode cX8_next 119 = .ok (.aload_n 0, 1) := dk_42 (dk_at dksX8_next_5 1 rfl rfl)
theorem dX8_next_120 : decode cX8_next 120 = .ok (.getfield 97, 3) := dk_180 0 97 (dk_at dksX8_next_5 2 rfl rfl)
theorem dX8_next_123 : decode cX8_next 123 = .ok (.invokevirtual 100, 3) := dk_182 0 100 (dk_at dksX8_next_5 5 rfl rfl)
theorem dX8_next_126 : decode cX8_next 126 = .ok (.bipush 97, 2) := dk_16 97 (dk_at dksX8_next_5 8 rfl rfl)
theorem dX8_next_128 : decode cX8_next 128 = .ok (.isub, 1) := dk_100 (dk_at dksX8_next_5 10 rfl rfl)
theorem dX8_next_129 : decode cX8_next 129 = .ok (.iconst 1, 1) := dk_4 (dk_at dksX8_next_5 11 rfl rfl)
theorem dX8_next_130 : decode cX8_next 130 = .ok (.iadd, 1) := dk_96 (dk_at dksX8_next_5 12 rfl rfl)
theorem dX8_next_131 : decode cX8_next 131 = .ok (.i2l, 1) := dk_133 (dk_at dksX8_next_5 13 rfl rfl)
theorem dX8_next_132 : decode cX8_next 132 = .ok (.ladd, 1) := dk_97 (dk_at dksX8_next_5 14 rfl rfl)
theorem dX8_next_133 : decode cX8_next 133 = .ok (.putfield 114, 3) := dk_181 0 114 (dk_at dksX8_next_5 15 rfl rfl)
theorem dX8_next_136 : decode cX8_next 136 = .ok (.iinc 2 1, 3) := dk_132 2 1 (dk_at dksX8_next_5 18 rfl rfl)
theorem dX8_next_139 : decode cX8_next 139 = .ok (.aload_n 0, 1) := dk_42 (dk_at dksX8_next_5 21 rfl rfl)
theorem dX8_next_140 : decode cX8_next 140 = .ok (.dup, 1) := dk_89 (dk_at dksX8_next_5 22 rfl rfl)
theorem dX8_next_141 : decode cX8_next 141 = .ok (.getfield 97, 3) := dk_180 0 97 (dk_at dksX8_next_6 0 rfl rfl)
theorem dX8_next_144 : decode cX8_next 144 = .ok (.iconst 1, 1) := dk_4 (dk_at dksX8_next_6 3 rfl rfl)
theorem dX8_next_145 : decode cX8_next 145 = .ok (.iadd, 1) := dk_96 (dk_at dksX8_next_6 4 rfl rfl)
theorem dX8_next_146 : decode cX8_next 146 = .ok (.putfield 97, 3) := dk_181 0 97 (dk_at dksX8_next_6 5 rfl rfl)
theorem dX8_next_149 : decode cX8_next 149 = .ok (.goto (-60), 3) := dk_167 255 196 (dk_at dksX8_next_6 8 rfl rfl)
theorem dX8_next_152 : decode cX8_next 152 = .ok (.iload_n 2, 1) := dk_28 (dk_at dksX8_next_6 11 rfl rfl)
theorem dX8_next_153 : decode cX8_next 153 = .ok (.bipush 8, 2) := dk_16 8 (dk_at dksX8_next_6 12 rfl rfl)
theorem dX8_next_155 : decode cX8_next 155 = .ok (.if_icmp .gt 126, 3) := dk_163 0 126 (dk_at dksX8_next_6 14 rfl rfl)
theorem dX8_next_158 : decode cX8_next 158 = .ok (.aload_n 0, 1) := dk_42 (dk_at dksX8_next_6 17 rfl rfl)
theorem dX8_next_159 : decode cX8_next 159 = .ok (.iconst 2, 1) := dk_5 (dk_at dksX8_next_6 18 rfl rfl)
theorem dX8_next_160 : decode cX8_next 160 = .ok (.putfield 94, 3) := dk_181 0 94 (dk_at dksX8_next_6 19 rfl rfl)
theorem dX8_next_163 : decode cX8_next 163 = .ok (.goto 118, 3) := dk_167 0 118 (dk_at dksX8_next_7 0 rfl rfl)
theorem dX8_next_166 : decode cX8_next 166 = .ok (.iload_n 1, 1) := dk_27 (dk_at dksX8_next_7 3 rfl rfl)
theorem dX8_next_167 : decode cX8_next 167 = .ok (.invokestatic 118, 3) := dk_184 0 118 (dk_at dksX8_next_7 4 rfl rfl)
theorem dX8_next_170 : decode cX8_next 170 = .ok (.ifCond .eq 79, 3) := dk_153 0 79 (dk_at dksX8_next_7 7 rfl rfl)
theorem dX8_next_173 : decode cX8_next 173 = .ok (.aload_n 0, 1) := dk_42 (dk_at dksX8_next_7 10 rfl rfl)
theorem dX8_next_174 : decode cX8_next 174 = .ok (.iconst 0, 1) := dk_3 (dk_at dksX8_next_7 11 rfl rfl)
theorem dX8_next_175 : decode cX8_next 175 = .ok (.putfield 121, 3) := dk_181 0 121 (dk_at dksX8_next_7 12 rfl rfl)
theorem dX8_next_178 : decode cX8_next 178 = .ok (.aload_n 0, 1) := dk_42 (dk_at dksX8_next_7 15 rfl rfl)
theorem dX8_next_179 : decode cX8_next 179 = .ok (.aload_n 0, 1) := dk_42 (dk_at dksX8_next_7 16 rfl rfl)
theorem dX8_next_180 : decode cX8_next 180 = .ok (.getfield 97, 3) := dk_180 0 97 (dk_at dksX8_next_7 17 rfl rfl)
theorem dX8_next_183 : decode cX8_next 183 = .ok (.invokevirtual 100, 3) := dk_182 0 100 (dk_at dksX8_next_7 20 rfl rfl)
theorem dX8_next_186 : decode cX8_next 186 = .ok (.invokestatic 118, 3) := dk_184 0 118 (dk_at dksX8_next_8 0 rfl rfl)
theorem dX8_next_189 : decode cX8_next 189 = .ok (.ifCond .eq 47, 3) := dk_153 0 47 (dk_at dksX8_next_8 3 rfl rfl)
theorem dX8_next_192 : decode cX8_next 192 = .ok (.iload_n 2, 1) := dk_28 (dk_at dksX8_next_8 6 rfl rfl)
theorem dX8_next_193 : decode cX8_next 193 = .ok (.iconst 3, 1) := dk_6 (dk_at dksX8_next_8 7 rfl rfl)
theorem dX8_next_194 : decode cX8_next 194 = .ok (.if_icmp .ge 26, 3) := dk_162 0 26 (dk_at dksX8_next_8 8 rfl rfl)
theorem dX8_next_197 : decode cX8_next 197 = .ok (.aload_n 0, 1) := dk_42 (dk_at dksX8_next_8 11 rfl rfl)
theorem dX8_next_198 : decode cX8_next 198 = .ok (.bipush 10, 2) := dk_16 10 (dk_at dksX8_next_8 12 rfl rfl)
theorem dX8_next_200 : decode cX8_next 200 = .ok (.aload_n 0, 1) := dk_42 (dk_at dksX8_next_8 14 rfl rfl)
theorem dX8_next_201 : decode cX8_next 201 = .ok (.getfield 121, 3) := dk_180 0 121 (dk_at dksX8_next_8 15 rfl rfl)
theorem dX8_next_204 : decode cX8_next 204 = .ok (.imul, 1) := dk_104 (dk_at dksX8_next_8 18 rfl rfl)
theorem dX8_next_205 : decode cX8_next 205 = .ok (.aload_n 0, 1) := dk_42 (dk_at dksX8_next_8 19 rfl rfl)
theorem dX8_next_206 : decode cX8_next 206 = .ok (.aload_n 0, 1) := dk_42 (dk_at dksX8_next_8 20 rfl rfl)
theorem dX8_next_207 : decode cX8_next 207 = .ok (.getfield 97, 3) := dk_180 0 97 (dk_at dksX8_next_8 21 rfl rfl)
theorem dX8_next_210 : decode cX8_next 210 = .ok (.invokevirtual 100, 3) := dk_182 0 100 (dk_at dksX8_next_9 0 rfl rfl)
theorem dX8_next_213 : decode cX8_next 213 = .ok (.iadd, 1) := dk_96 (dk_at dksX8_next_9 3 rfl rfl)
theorem dX8_next_214 : decode cX8_next 214 = .ok (.bipush 48, 2) := dk_16 48 (dk_at dksX8_next_9 4 rfl rfl)
theorem dX8_next_216 : decode cX8_next 216 = .ok (.isub, 1) := dk_100 (dk_at dksX8_next_9 6 rfl rfl)
theorem dX8_next_217 : decode cX8_next 217 = .ok (.putfield 121, 3) := dk_181 0 121 (dk_at dksX8_next_9 7 rfl rfl)
theorem dX8_next_220 : decode cX8_next 220 = .ok (.iinc 2 1, 3) := dk_132 2 1 (dk_at dksX8_next_9 10 rfl rfl)
theorem dX8_next_223 : decode cX8_next 223 = .ok (.aload_n 0, 1) := dk_42 (dk_at dksX8_next_9 13 rfl rfl)
theorem dX8_next_224 : decode cX8_next 224 = .ok (.dup, 1) := dk_89 (dk_at dksX8_next_9 14 rfl rfl)
theorem dX8_next_225 : decode cX8_next 225 = .ok (.getfield 97, 3) := dk_180 0 97 (dk_at dksX8_next_9 15 rfl rfl)
theorem dX8_next_228 : decode cX8_next 228 = .ok (.iconst 1, 1) := dk_4 (dk_at dksX8_next_9 18 rfl rfl)
theorem dX8_next_229 : decode cX8_next 229 = .ok (.iadd, 1) := dk_96 (dk_at dksX8_next_9 19 rfl rfl)
theorem dX8_next_230 : decode cX8_next 230 = .ok (.putfield 97, 3) := dk_181 0 97 (dk_at dksX8_next_9 20 rfl rfl)
theorem dX8_next_233 : decode cX8_next 233 = .ok (.goto (-55), 3) := dk_167 255 201 (dk_at dksX8_next_10 0 rfl rfl)
theorem dX8_next_236 : decode cX8_next 236 = .ok (.iload_n 2, 1) := dk_28 (dk_at dksX8_next_10 3 rfl rfl)
theorem dX8_next_237 : decode cX8_next 237 = .ok (.iconst 3, 1) := dk_6 (dk_at dksX8_next_10 4 rfl rfl)
theorem dX8_next_238 : decode cX8_next 238 = .ok (.if_icmp .gt 43, 3) := dk_163 0 43 (dk_at dksX8_next_10 5 rfl rfl)
theorem dX8_next_241 : decode cX8_next 241 = .ok (.aload_n 0, 1) := dk_42 (dk_at dksX8_next_10 8 rfl rfl)
theorem dX8_next_242 : decode cX8_next 242 = .ok (.iconst 3, 1) := dk_6 (dk_at dksX8_next_10 9 rfl rfl)
theorem dX8_next_243 : decode cX8_next 243 = .ok (.putfield 94, 3) := dk_181 0 94 (dk_at dksX8_next_10 10 rfl rfl)
theorem dX8_next_246 : decode cX8_next 246 = .ok (.goto 35, 3) := dk_167 0 35 (dk_at dksX8_next_10 13 rfl rfl)
theorem dX8_next_249 : decode cX8_next 249 = .ok (.iload_n 1, 1) := dk_27 (dk_at dksX8_next_10 16 rfl rfl)
theorem dX8_next_250 : decode cX8_next 250 = .ok (.bipush 59, 2) := dk_16 59 (dk_at dksX8_next_10 17 rfl rfl)
theorem dX8_next_252 : decode cX8_next 252 = .ok (.if_icmp .eq 9, 3) := dk_159 0 9 (dk_at dksX8_next_10 19 rfl rfl)
theorem dX8_next_255 : decode cX8_next 255 = .ok (.iload_n 1, 1) := dk_27 (dk_at dksX8_next_10 22 rfl rfl)
theorem dX8_next_256 : decode cX8_next 256 = .ok (.bipush 44, 2) := dk_16 44 (dk_at dksX8_next_11 0 rfl rfl)
theorem dX8_next_258 : decode cX8_next 258 = .ok (.if_icmp .ne 23, 3) := dk_160 0 23 (dk_at dksX8_next_11 2 rfl rfl)
theorem dX8_next_261 : decode cX8_next 261 = .ok (.aload_n 0, 1) := dk_42 (dk_at dksX8_next_11 5 rfl rfl)
theorem dX8_next_262 : decode cX8_next 262 = .ok (.iconst 4, 1) := dk_7 (dk_at dksX8_next_11 6 rfl rfl)
theorem dX8_next_263 : decode cX8_next 263 = .ok (.putfield 94, 3) := dk_181 0 94 (dk_at dksX8_next_11 7 rfl rfl)
theorem dX8_next_266 : decode cX8_next 266 = .ok (.aload_n 0, 1) := dk_42 (dk_at dksX8_next_11 10 rfl rfl)
theorem dX8_next_267 : decode cX8_next 267 = .ok (.iload_n 1, 1) := dk_27 (dk_at dksX8_next_11 11 rfl rfl)
theorem dX8_next_268 : decode cX8_next 268 = .ok (.putfield 107, 3) := dk_181 0 107 (dk_at dksX8_next_11 12 rfl rfl)
theorem dX8_next_271 : decode cX8_next 271 = .ok (.aload_n 0, 1) := dk_42 (dk_at dksX8_next_11 15 rfl rfl)
theorem dX8_next_272 : decode cX8_next 272 = .ok (.dup, 1) := dk_89 (dk_at dksX8_next_11 16 rfl rfl)
theorem dX8_next_273 : decode cX8_next 273 = .ok (.getfield 97, 3) := dk_180 0 97 (dk_at dksX8_next_11 17 rfl rfl)
theorem dX8_next_276 : decode cX8_next 276 = .ok (.iconst 1, 1) := dk_4 (dk_at dksX8_next_11 20 rfl rfl)
theorem dX8_next_277 : decode cX8_next 277 = .ok (.iadd, 1) := dk_96 (dk_at dksX8_next_11 21 rfl rfl)
theorem dX8_next_278 : decode cX8_next 278 = .ok (.putfield 97, 3) := dk_181 0 97 (dk_at dksX8_next_12 0 rfl rfl)
theorem dX8_next_281 : decode cX8_next 281 = .ok (.return_, 1) := dk_177 (dk_at dksX8_next_12 3 rfl rfl)
abbrev cX8_byteAt : ByteArray := prog_14_method_8_code
def yX8_byteAt : MethodName := ⟨RX8, "byteAt", "(I)I"⟩
def dkwX8_byteAt_0 : List UInt8 := [27, 42, 180, 0, 79, 162, 0, 16, 42, 180, 0, 13, 27, 51, 17, 0, 255, 126, 167, 0, 4, 2, 172]
abbrev dktX8_byteAt_0 : List UInt8 := dkwX8_byteAt_0 ++ []
theorem dksX8_byteAt_0 : cX8_byteAt.data.toList.drop 0 = dktX8_byteAt_0 := by decide +kernel
theorem dX8_byteAt_0 : decode cX8_byteAt 0 = .ok (.iload_n 1, 1) := dk_27 (dk_at dksX8_byteAt_0 0 rfl rfl)
theorem dX8_byteAt_1 : decode cX8_byteAt 1 = .ok (.aload_n 0, 1) := dk_42 (dk_at dksX8_byteAt_0 1 rfl rfl)
theorem dX8_byteAt_2 : decode cX8_byteAt 2 = .ok (.getfield 79, 3) := dk_180 0 79 (dk_at dksX8_byteAt_0 2 rfl rfl)
theorem dX8_byteAt_5 : decode cX8_byteAt 5 = .ok (.if_icmp .ge 16, 3) := dk_162 0 16 (dk_at dksX8_byteAt_0 5 rfl rfl)
theorem dX8_byteAt_8 : decode cX8_byteAt 8 = .ok (.aload_n 0, 1) := dk_42 (dk_at dksX8_byteAt_0 8 rfl rfl)
theorem dX8_byteAt_9 : decode cX8_byteAt 9 = .ok (.getfield 13, 3) := dk_180 0 13 (dk_at dksX8_byteAt_0 9 rfl rfl)
theorem dX8_byteAt_12 : decode cX8_byteAt 12 = .ok (.iload_n 1, 1) := dk_27 (dk_at dksX8_byteAt_0 12 rfl rfl)
theorem dX8_byteAt_13 : decode cX8_byteAt 13 = .ok (.baload, 1) := dk_51 (dk_at dksX8_byteAt_0 13 rfl rfl)
theorem dX8_byteAt_14 : decode cX8_byteAt 14 = .ok (.sipush 255, 3) := dk_17 0 255 (dk_at dksX8_byteAt_0 14 rfl rfl)
theorem dX8_byteAt_17 : decode cX8_byteAt 17 = .ok (.iand, 1) := dk_126 (dk_at dksX8_byteAt_0 17 rfl rfl)
theorem dX8_byteAt_18 : decode cX8_byteAt 18 = .ok (.goto 4, 3) := dk_167 0 4 (dk_at dksX8_byteAt_0 18 rfl rfl)
theorem dX8_byteAt_21 : decode cX8_byteAt 21 = .ok (.iconst (-1), 1) := dk_2 (dk_at dksX8_byteAt_0 21 rfl rfl)
theorem dX8_byteAt_22 : decode cX8_byteAt 22 = .ok (.ireturn, 1) := dk_172 (dk_at dksX8_byteAt_0 22 rfl rfl)
abbrev cX8_isLetter : ByteArray := prog_14_method_9_code
def yX8_isLetter : MethodName := ⟨RX8, "isLetter", "(I)Z"⟩
def dkwX8_isLetter_0 : List UInt8 := [26, 16, 97, 161, 0, 13, 26, 16, 122, 163, 0, 7, 4, 167, 0, 4, 3, 172]
abbrev dktX8_isLetter_0 : List UInt8 := dkwX8_isLetter_0 ++ []
theorem dksX8_isLetter_0 : cX8_isLetter.data.toList.drop 0 = dktX8_isLetter_0 := by decide +kernel
theorem dX8_isLetter_0 : decode cX8_isLetter 0 = .ok (.iload_n 0, 1) := dk_26 (dk_at dksX8_isLetter_0 0 rfl rfl)
theorem dX8_isLetter_1 : decode cX8_isLetter 1 = .ok (.bipush 97, 2) := dk_16 97 (dk_at dksX8_isLetter_0 1 rfl rfl)
theorem dX8_isLetter_3 : decode cX8_isLetter 3 = .ok (.if_icmp .lt 13, 3) := dk_161 0 13 (dk_at dksX8_isLetter_0 3 rfl rfl)
theorem dX8_isLetter_6 : decode cX8_isLetter 6 = .ok (.iload_n 0, 1) := dk_26 (dk_at dksX8_isLetter_0 6 rfl rfl)
theorem dX8_isLetter_7 : decode cX8_isLetter 7 = .ok (.bipush 122, 2) := dk_16 122 (dk_at dksX8_isLetter_0 7 rfl rfl)
theorem dX8_isLetter_9 : decode cX8_isLetter 9 = .ok (.if_icmp .gt 7, 3) := dk_163 0 7 (dk_at dksX8_isLetter_0 9 rfl rfl)
theorem dX8_isLetter_12 : decode cX8_isLetter 12 = .ok (.iconst 1, 1) := dk_4 (dk_at dksX8_isLetter_0 12 rfl rfl)
theorem dX8_isLetter_13 : decode cX8_isLetter 13 = .ok (.goto 4, 3) := dk_167 0 4 (dk_at dksX8_isLetter_0 13 rfl rfl)
theorem dX8_isLetter_16 : decode cX8_isLetter 16 = .ok (.iconst 0, 1) := dk_3 (dk_at dksX8_isLetter_0 16 rfl rfl)
theorem dX8_isLetter_17 : decode cX8_isLetter 17 = .ok (.ireturn, 1) := dk_172 (dk_at dksX8_isLetter_0 17 rfl rfl)
abbrev cX8_isDigit : ByteArray := prog_14_method_10_code
def yX8_isDigit : MethodName := ⟨RX8, "isDigit", "(I)Z"⟩
def dkwX8_isDigit_0 : List UInt8 := [26, 16, 48, 161, 0, 13, 26, 16, 57, 163, 0, 7, 4, 167, 0, 4, 3, 172]
abbrev dktX8_isDigit_0 : List UInt8 := dkwX8_isDigit_0 ++ []
theorem dksX8_isDigit_0 : cX8_isDigit.data.toList.drop 0 = dktX8_isDigit_0 := by decide +kernel
theorem dX8_isDigit_0 : decode cX8_isDigit 0 = .ok (.iload_n 0, 1) := dk_26 (dk_at dksX8_isDigit_0 0 rfl rfl)
theorem dX8_isDigit_1 : decode cX8_isDigit 1 = .ok (.bipush 48, 2) := dk_16 48 (dk_at dksX8_isDigit_0 1 rfl rfl)
theorem dX8_isDigit_3 : decode cX8_isDigit 3 = .ok (.if_icmp .lt 13, 3) := dk_161 0 13 (dk_at dksX8_isDigit_0 3 rfl rfl)
theorem dX8_isDigit_6 : decode cX8_isDigit 6 = .ok (.iload_n 0, 1) := dk_26 (dk_at dksX8_isDigit_0 6 rfl rfl)
theorem dX8_isDigit_7 : decode cX8_isDigit 7 = .ok (.bipush 57, 2) := dk_16 57 (dk_at dksX8_isDigit_0 7 rfl rfl)
theorem dX8_isDigit_9 : decode cX8_isDigit 9 = .ok (.if_icmp .gt 7, 3) := dk_163 0 7 (dk_at dksX8_isDigit_0 9 rfl rfl)
theorem dX8_isDigit_12 : decode cX8_isDigit 12 = .ok (.iconst 1, 1) := dk_4 (dk_at dksX8_isDigit_0 12 rfl rfl)
theorem dX8_isDigit_13 : decode cX8_isDigit 13 = .ok (.goto 4, 3) := dk_167 0 4 (dk_at dksX8_isDigit_0 13 rfl rfl)
theorem dX8_isDigit_16 : decode cX8_isDigit 16 = .ok (.iconst 0, 1) := dk_3 (dk_at dksX8_isDigit_0 16 rfl rfl)
theorem dX8_isDigit_17 : decode cX8_isDigit 17 = .ok (.ireturn, 1) := dk_172 (dk_at dksX8_isDigit_0 17 rfl rfl)
abbrev cX8_readMill : ByteArray := prog_14_method_20_code
def yX8_readMill : MethodName := ⟨RX8, "readMill", "()V"⟩
def dkwX8_readMill_5 : List UInt8 := [154, 0, 7, 4, 167, 0, 4, 3, 61, 28, 153, 0, 9, 42, 16, 6, 182, 0, 142, 177]
abbrev dktX8_readMill_5 : List UInt8 := dkwX8_readMill_5 ++ []
def dkwX8_readMill_4 : List UInt8 := [180, 0, 188, 153, 0, 24, 42, 180, 0, 172, 180, 0, 191, 5, 161, 0, 13, 42, 180, 0, 172, 180, 0, 194]
abbrev dktX8_readMill_4 : List UInt8 := dkwX8_readMill_4 ++ dktX8_readMill_5
def dkwX8_readMill_3 : List UInt8 := [180, 0, 183, 2, 159, 0, 45, 42, 180, 0, 172, 180, 0, 186, 2, 159, 0, 34, 42, 180, 0, 172]
abbrev dktX8_readMill_3 : List UInt8 := dkwX8_readMill_3 ++ dktX8_readMill_4
def dkwX8_readMill_2 : List UInt8 := [180, 0, 176, 2, 159, 0, 67, 42, 180, 0, 172, 180, 0, 181, 2, 159, 0, 56, 42, 180, 0, 172]
abbrev dktX8_readMill_2 : List UInt8 := dkwX8_readMill_2 ++ dktX8_readMill_3
def dkwX8_readMill_1 : List UInt8 := [182, 0, 146, 167, 255, 233, 42, 180, 0, 94, 4, 159, 0, 8, 42, 4, 182, 0, 142, 42, 180, 0, 172]
abbrev dktX8_readMill_1 : List UInt8 := dkwX8_readMill_1 ++ dktX8_readMill_2
def dkwX8_readMill_0 : List UInt8 := [4, 60, 27, 153, 0, 25, 42, 182, 0, 166, 42, 16, 59, 182, 0, 169, 60, 27, 153, 255, 240, 42]
abbrev dktX8_readMill_0 : List UInt8 := dkwX8_readMill_0 ++ dktX8_readMill_1
theorem dksX8_readMill_0 : cX8_readMill.data.toList.drop 0 = dktX8_readMill_0 := by decide +kernel
theorem dksX8_readMill_1 : cX8_readMill.data.toList.drop 22 = dktX8_readMill_1 := dk_seg dksX8_readMill_0 22 rfl rfl
theorem dksX8_readMill_2 : cX8_readMill.data.toList.drop 45 = dktX8_readMill_2 := dk_seg dksX8_readMill_1 23 rfl rfl
theorem dksX8_readMill_3 : cX8_readMill.data.toList.drop 67 = dktX8_readMill_3 := dk_seg dksX8_readMill_2 22 rfl rfl
theorem dksX8_readMill_4 : cX8_readMill.data.toList.drop 89 = dktX8_readMill_4 := dk_seg dksX8_readMill_3 22 rfl rfl
theorem dksX8_readMill_5 : cX8_readMill.data.toList.drop 113 = dktX8_readMill_5 := dk_seg dksX8_readMill_4 24 rfl rfl
theorem dX8_readMill_0 : decode cX8_readMill 0 = .ok (.iconst 1, 1) := dk_4 (dk_at dksX8_readMill_0 0 rfl rfl)
theorem dX8_readMill_1 : decode cX8_readMill 1 = .ok (.istore_n 1, 1) := dk_60 (dk_at dksX8_readMill_0 1 rfl rfl)
theorem dX8_readMill_2 : decode cX8_readMill 2 = .ok (.iload_n 1, 1) := dk_27 (dk_at dksX8_readMill_0 2 rfl rfl)
theorem dX8_readMill_3 : decode cX8_readMill 3 = .ok (.ifCond .eq 25, 3) := dk_153 0 25 (dk_at dksX8_readMill_0 3 rfl rfl)
theorem dX8_readMill_6 : decode cX8_readMill 6 = .ok (.aload_n 0, 1) := dk_42 (dk_at dksX8_readMill_0 6 rfl rfl)
theorem dX8_readMill_7 : decode cX8_readMill 7 = .ok (.invokevirtual 166, 3) := dk_182 0 166 (dk_at dksX8_readMill_0 7 rfl rfl)
theorem dX8_readMill_10 : decode cX8_readMill 10 = .ok (.aload_n 0, 1) := dk_42 (dk_at dksX8_readMill_0 10 rfl rfl)
theorem dX8_readMill_11 : decode cX8_readMill 11 = .ok (.bipush 59, 2) := dk_16 59 (dk_at dksX8_readMill_0 11 rfl rfl)
theorem dX8_readMill_13 : decode cX8_readMill 13 = .ok (.invokevirtual 169, 3) := dk_182 0 169 (dk_at dksX8_readMill_0 13 rfl rfl)
theorem dX8_readMill_16 : decode cX8_readMill 16 = .ok (.istore_n 1, 1) := dk_60 (dk_at dksX8_readMill_0 16 rfl rfl)
theorem dX8_readMill_17 : decode cX8_readMill 17 = .ok (.iload_n 1, 1) := dk_27 (dk_at dksX8_readMill_0 17 rfl rfl)
theorem dX8_readMill_18 : decode cX8_readMill 18 = .ok (.ifCond .eq (-16), 3) := dk_153 255 240 (dk_at dksX8_readMill_0 18 rfl rfl)
theorem dX8_readMill_21 : decode cX8_readMill 21 = .ok (.aload_n 0, 1) := dk_42 (dk_at dksX8_readMill_0 21 rfl rfl)
theorem dX8_readMill_22 : decode cX8_readMill 22 = .ok (.invokevirtual 146, 3) := dk_182 0 146 (dk_at dksX8_readMill_1 0 rfl rfl)
theorem dX8_readMill_25 : decode cX8_readMill 25 = .ok (.goto (-23), 3) := dk_167 255 233 (dk_at dksX8_readMill_1 3 rfl rfl)
theorem dX8_readMill_28 : decode cX8_readMill 28 = .ok (.aload_n 0, 1) := dk_42 (dk_at dksX8_readMill_1 6 rfl rfl)
theorem dX8_readMill_29 : decode cX8_readMill 29 = .ok (.getfield 94, 3) := dk_180 0 94 (dk_at dksX8_readMill_1 7 rfl rfl)
theorem dX8_readMill_32 : decode cX8_readMill 32 = .ok (.iconst 1, 1) := dk_4 (dk_at dksX8_readMill_1 10 rfl rfl)
theorem dX8_readMill_33 : decode cX8_readMill 33 = .ok (.if_icmp .eq 8, 3) := dk_159 0 8 (dk_at dksX8_readMill_1 11 rfl rfl)
theorem dX8_readMill_36 : decode cX8_readMill 36 = .ok (.aload_n 0, 1) := dk_42 (dk_at dksX8_readMill_1 14 rfl rfl)
theorem dX8_readMill_37 : decode cX8_readMill 37 = .ok (.iconst 1, 1) := dk_4 (dk_at dksX8_readMill_1 15 rfl rfl)
theorem dX8_readMill_38 : decode cX8_readMill 38 = .ok (.invokevirtual 142, 3) := dk_182 0 142 (dk_at dksX8_readMill_1 16 rfl rfl)
theorem dX8_readMill_41 : decode cX8_readMill 41 = .ok (.aload_n 0, 1) := dk_42 (dk_at dksX8_readMill_1 19 rfl rfl)
theorem dX8_readMill_42 : decode cX8_readMill 42 = .ok (.getfield 172, 3) := dk_180 0 172 (dk_at dksX8_readMill_1 20 rfl rfl)
theorem dX8_readMill_45 : decode cX8_readMill 45 = .ok (.getfield 176, 3) := dk_180 0 176 (dk_at dksX8_readMill_2 0 rfl rfl)
theorem dX8_readMill_48 : decode cX8_readMill 48 = .ok (.iconst (-1), 1) := dk_2 (dk_at dksX8_readMill_2 3 rfl rfl)
theorem dX8_readMill_49 : decode cX8_readMill 49 = .ok (.if_icmp .eq 67, 3) := dk_159 0 67 (dk_at dksX8_readMill_2 4 rfl rfl)
theorem dX8_readMill_52 : decode cX8_readMill 52 = .ok (.aload_n 0, 1) := dk_42 (dk_at dksX8_readMill_2 7 rfl rfl)
theorem dX8_readMill_53 : decode cX8_readMill 53 = .ok (.getfield 172, 3) := dk_180 0 172 (dk_at dksX8_readMill_2 8 rfl rfl)
theorem dX8_readMill_56 : decode cX8_readMill 56 = .ok (.getfield 181, 3) := dk_180 0 181 (dk_at dksX8_readMill_2 11 rfl rfl)
theorem dX8_readMill_59 : decode cX8_readMill 59 = .ok (.iconst (-1), 1) := dk_2 (dk_at dksX8_readMill_2 14 rfl rfl)
theorem dX8_readMill_60 : decode cX8_readMill 60 = .ok (.if_icmp .eq 56, 3) := dk_159 0 56 (dk_at dksX8_readMill_2 15 rfl rfl)
theorem dX8_readMill_63 : decode cX8_readMill 63 = .ok (.aload_n 0, 1) := dk_42 (dk_at dksX8_readMill_2 18 rfl rfl)
theorem dX8_readMill_64 : decode cX8_readMill 64 = .ok (.getfield 172, 3) := dk_180 0 172 (dk_at dksX8_readMill_2 19 rfl rfl)
theorem dX8_readMill_67 : decode cX8_readMill 67 = .ok (.getfield 183, 3) := dk_180 0 183 (dk_at dksX8_readMill_3 0 rfl rfl)
theorem dX8_readMill_70 : decode cX8_readMill 70 = .ok (.iconst (-1), 1) := dk_2 (dk_at dksX8_readMill_3 3 rfl rfl)
theorem dX8_readMill_71 : decode cX8_readMill 71 = .ok (.if_icmp .eq 45, 3) := dk_159 0 45 (dk_at dksX8_readMill_3 4 rfl rfl)
theorem dX8_readMill_74 : decode cX8_readMill 74 = .ok (.aload_n 0, 1) := dk_42 (dk_at dksX8_readMill_3 7 rfl rfl)
theorem dX8_readMill_75 : decode cX8_readMill 75 = .ok (.getfield 172, 3) := dk_180 0 172 (dk_at dksX8_readMill_3 8 rfl rfl)
theorem dX8_readMill_78 : decode cX8_readMill 78 = .ok (.getfield 186, 3) := dk_180 0 186 (dk_at dksX8_readMill_3 11 rfl rfl)
theorem dX8_readMill_81 : decode cX8_readMill 81 = .ok (.iconst (-1), 1) := dk_2 (dk_at dksX8_readMill_3 14 rfl rfl)
theorem dX8_readMill_82 : decode cX8_readMill 82 = .ok (.if_icmp .eq 34, 3) := dk_159 0 34 (dk_at dksX8_readMill_3 15 rfl rfl)
theorem dX8_readMill_85 : decode cX8_readMill 85 = .ok (.aload_n 0, 1) := dk_42 (dk_at dksX8_readMill_3 18 rfl rfl)
theorem dX8_readMill_86 : decode cX8_readMill 86 = .ok (.getfield 172, 3) := dk_180 0 172 (dk_at dksX8_readMill_3 19 rfl rfl)
theorem dX8_readMill_89 : decode cX8_readMill 89 = .ok (.getfield 188, 3) := dk_180 0 188 (dk_at dksX8_readMill_4 0 rfl rfl)
theorem dX8_readMill_92 : decode cX8_readMill 92 = .ok (.ifCond .eq 24, 3) := dk_153 0 24 (dk_at dksX8_readMill_4 3 rfl rfl)
theorem dX8_readMill_95 : decode cX8_readMill 95 = .ok (.aload_n 0, 1) := dk_42 (dk_at dksX8_readMill_4 6 rfl rfl)
theorem dX8_readMill_96 : decode cX8_readMill 96 = .ok (.getfield 172, 3) := dk_180 0 172 (dk_at dksX8_readMill_4 7 rfl rfl)
theorem dX8_readMill_99 : decode cX8_readMill 99 = .ok (.getfield 191, 3) := dk_180 0 191 (dk_at dksX8_readMill_4 10 rfl rfl)
theorem dX8_readMill_102 : decode cX8_readMill 102 = .ok (.iconst 2, 1) := dk_5 (dk_at dksX8_readMill_4 13 rfl rfl)
theorem dX8_readMill_103 : decode cX8_readMill 103 = .ok (.if_icmp .lt 13, 3) := dk_161 0 13 (dk_at dksX8_readMill_4 14 rfl rfl)
theorem dX8_readMill_106 : decode cX8_readMill 106 = .ok (.aload_n 0, 1) := dk_42 (dk_at dksX8_readMill_4 17 rfl rfl)
theorem dX8_readMill_107 : decode cX8_readMill 107 = .ok (.getfield 172, 3) := dk_180 0 172 (dk_at dksX8_readMill_4 18 rfl rfl)
theorem dX8_readMill_110 : decode cX8_readMill 110 = .ok (.getfield 194, 3) := dk_180 0 194 (dk_at dksX8_readMill_4 21 rfl rfl)
theorem dX8_readMill_113 : decode cX8_readMill 113 = .ok (.ifCond .ne 7, 3) := dk_154 0 7 (dk_at dksX8_readMill_5 0 rfl rfl)
theorem dX8_readMill_116 : decode cX8_readMill 116 = .ok (.iconst 1, 1) := dk_4 (dk_at dksX8_readMill_5 3 rfl rfl)
theorem dX8_readMill_117 : decode cX8_readMill 117 = .ok (.goto 4, 3) := dk_167 0 4 (dk_at dksX8_readMill_5 4 rfl rfl)
theorem dX8_readMill_120 : decode cX8_readMill 120 = .ok (.iconst 0, 1) := dk_3 (dk_at dksX8_readMill_5 7 rfl rfl)
theorem dX8_readMill_121 : decode cX8_readMill 121 = .ok (.istore_n 2, 1) := dk_61 (dk_at dksX8_readMill_5 8 rfl rfl)
theorem dX8_readMill_122 : decode cX8_readMill 122 = .ok (.iload_n 2, 1) := dk_28 (dk_at dksX8_readMill_5 9 rfl rfl)
theorem dX8_readMill_123 : decode cX8_readMill 123 = .ok (.ifCond .eq 9, 3) := dk_153 0 9 (dk_at dksX8_readMill_5 10 rfl rfl)
theorem dX8_readMill_126 : decode cX8_readMill 126 = .ok (.aload_n 0, 1) := dk_42 (dk_at dksX8_readMill_5 13 rfl rfl)
theorem dX8_readMill_127 : decode cX8_readMill 127 = .ok (.bipush 6, 2) := dk_16 6 (dk_at dksX8_readMill_5 14 rfl rfl)
theorem dX8_readMill_129 : decode cX8_readMill 129 = .ok (.invokevirtual 142, 3) := dk_182 0 142 (dk_at dksX8_readMill_5 16 rfl rfl)
theorem dX8_readMill_132 : decode cX8_readMill 132 = .ok (.return_, 1) := dk_177 (dk_at dksX8_readMill_5 19 rfl rfl)
abbrev cX8_readLine : ByteArray := prog_14_method_21_code
def yX8_readLine : MethodName := ⟨RX8, "readLine", "()V"⟩
def dkwX8_readLine_5 : List UInt8 := [182, 0, 142, 177]
abbrev dktX8_readLine_5 : List UInt8 := dkwX8_readLine_5 ++ []
def dkwX8_readLine_4 : List UInt8 := [182, 0, 212, 167, 0, 24, 42, 18, 164, 182, 0, 138, 153, 0, 10, 42, 182, 0, 215, 167, 0, 8, 42, 4]
abbrev dktX8_readLine_4 : List UInt8 := dkwX8_readLine_4 ++ dktX8_readLine_5
def dkwX8_readLine_3 : List UInt8 := [182, 0, 138, 153, 0, 10, 42, 182, 0, 209, 167, 0, 40, 42, 18, 163, 182, 0, 138, 153, 0, 10, 42]
abbrev dktX8_readLine_3 : List UInt8 := dkwX8_readLine_3 ++ dktX8_readLine_4
def dkwX8_readLine_2 : List UInt8 := [167, 0, 72, 42, 18, 159, 182, 0, 138, 153, 0, 10, 42, 182, 0, 206, 167, 0, 56, 42, 18, 161]
abbrev dktX8_readLine_2 : List UInt8 := dkwX8_readLine_2 ++ dktX8_readLine_3
def dkwX8_readLine_1 : List UInt8 := [153, 0, 10, 42, 182, 0, 200, 167, 0, 88, 42, 18, 157, 182, 0, 138, 153, 0, 10, 42, 182, 0, 203]
abbrev dktX8_readLine_1 : List UInt8 := dkwX8_readLine_1 ++ dktX8_readLine_2
def dkwX8_readLine_0 : List UInt8 := [42, 18, 153, 182, 0, 138, 153, 0, 10, 42, 182, 0, 197, 167, 0, 104, 42, 18, 155, 182, 0, 138]
abbrev dktX8_readLine_0 : List UInt8 := dkwX8_readLine_0 ++ dktX8_readLine_1
theorem dksX8_readLine_0 : cX8_readLine.data.toList.drop 0 = dktX8_readLine_0 := by decide +kernel
theorem dksX8_readLine_1 : cX8_readLine.data.toList.drop 22 = dktX8_readLine_1 := dk_seg dksX8_readLine_0 22 rfl rfl
theorem dksX8_readLine_2 : cX8_readLine.data.toList.drop 45 = dktX8_readLine_2 := dk_seg dksX8_readLine_1 23 rfl rfl
theorem dksX8_readLine_3 : cX8_readLine.data.toList.drop 67 = dktX8_readLine_3 := dk_seg dksX8_readLine_2 22 rfl rfl
theorem dksX8_readLine_4 : cX8_readLine.data.toList.drop 90 = dktX8_readLine_4 := dk_seg dksX8_readLine_3 23 rfl rfl
theorem dksX8_readLine_5 : cX8_readLine.data.toList.drop 114 = dktX8_readLine_5 := dk_seg dksX8_readLine_4 24 rfl rfl
theorem dX8_readLine_0 : decode cX8_readLine 0 = .ok (.aload_n 0, 1) := dk_42 (dk_at dksX8_readLine_0 0 rfl rfl)
theorem dX8_readLine_1 : decode cX8_readLine 1 = .ok (.ldc 153, 2) := dk_18 153 (dk_at dksX8_readLine_0 1 rfl rfl)
theorem dX8_readLine_3 : decode cX8_readLine 3 = .ok (.invokevirtual 138, 3) := dk_182 0 138 (dk_at dksX8_readLine_0 3 rfl rfl)
theorem dX8_readLine_6 : decode cX8_readLine 6 = .ok (.ifCond .eq 10, 3) := dk_153 0 10 (dk_at dksX8_readLine_0 6 rfl rfl)
theorem dX8_readLine_9 : decode cX8_readLine 9 = .ok (.aload_n 0, 1) := dk_42 (dk_at dksX8_readLine_0 9 rfl rfl)
theorem dX8_readLine_10 : decode cX8_readLine 10 = .ok (.invokevirtual 197, 3) := dk_182 0 197 (dk_at dksX8_readLine_0 10 rfl rfl)
theorem dX8_readLine_13 : decode cX8_readLine 13 = .ok (.goto 104, 3) := dk_167 0 104 (dk_at dksX8_readLine_0 13 rfl rfl)
theorem dX8_readLine_16 : decode cX8_readLine 16 = .ok (.aload_n 0, 1) := dk_42 (dk_at dksX8_readLine_0 16 rfl rfl)
theorem dX8_readLine_17 : decode cX8_readLine 17 = .ok (.ldc 155, 2) := dk_18 155 (dk_at dksX8_readLine_0 17 rfl rfl)
theorem dX8_readLine_19 : decode cX8_readLine 19 = .ok (.invokevirtual 138, 3) := dk_182 0 138 (dk_at dksX8_readLine_0 19 rfl rfl)
theorem dX8_readLine_22 : decode cX8_readLine 22 = .ok (.ifCond .eq 10, 3) := dk_153 0 10 (dk_at dksX8_readLine_1 0 rfl rfl)
theorem dX8_readLine_25 : decode cX8_readLine 25 = .ok (.aload_n 0, 1) := dk_42 (dk_at dksX8_readLine_1 3 rfl rfl)
theorem dX8_readLine_26 : decode cX8_readLine 26 = .ok (.invokevirtual 200, 3) := dk_182 0 200 (dk_at dksX8_readLine_1 4 rfl rfl)
theorem dX8_readLine_29 : decode cX8_readLine 29 = .ok (.goto 88, 3) := dk_167 0 88 (dk_at dksX8_readLine_1 7 rfl rfl)
theorem dX8_readLine_32 : decode cX8_readLine 32 = .ok (.aload_n 0, 1) := dk_42 (dk_at dksX8_readLine_1 10 rfl rfl)
theorem dX8_readLine_33 : decode cX8_readLine 33 = .ok (.ldc 157, 2) := dk_18 157 (dk_at dksX8_readLine_1 11 rfl rfl)
theorem dX8_readLine_35 : decode cX8_readLine 35 = .ok (.invokevirtual 138, 3) := dk_182 0 138 (dk_at dksX8_readLine_1 13 rfl rfl)
theorem dX8_readLine_38 : decode cX8_readLine 38 = .ok (.ifCond .eq 10, 3) := dk_153 0 10 (dk_at dksX8_readLine_1 16 rfl rfl)
theorem dX8_readLine_41 : decode cX8_readLine 41 = .ok (.aload_n 0, 1) := dk_42 (dk_at dksX8_readLine_1 19 rfl rfl)
theorem dX8_readLine_42 : decode cX8_readLine 42 = .ok (.invokevirtual 203, 3) := dk_182 0 203 (dk_at dksX8_readLine_1 20 rfl rfl)
theorem dX8_readLine_45 : decode cX8_readLine 45 = .ok (.goto 72, 3) := dk_167 0 72 (dk_at dksX8_readLine_2 0 rfl rfl)
theorem dX8_readLine_48 : decode cX8_readLine 48 = .ok (.aload_n 0, 1) := dk_42 (dk_at dksX8_readLine_2 3 rfl rfl)
theorem dX8_readLine_49 : decode cX8_readLine 49 = .ok (.ldc 159, 2) := dk_18 159 (dk_at dksX8_readLine_2 4 rfl rfl)
theorem dX8_readLine_51 : decode cX8_readLine 51 = .ok (.invokevirtual 138, 3) := dk_182 0 138 (dk_at dksX8_readLine_2 6 rfl rfl)
theorem dX8_readLine_54 : decode cX8_readLine 54 = .ok (.ifCond .eq 10, 3) := dk_153 0 10 (dk_at dksX8_readLine_2 9 rfl rfl)
theorem dX8_readLine_57 : decode cX8_readLine 57 = .ok (.aload_n 0, 1) := dk_42 (dk_at dksX8_readLine_2 12 rfl rfl)
theorem dX8_readLine_58 : decode cX8_readLine 58 = .ok (.invokevirtual 206, 3) := dk_182 0 206 (dk_at dksX8_readLine_2 13 rfl rfl)
theorem dX8_readLine_61 : decode cX8_readLine 61 = .ok (.goto 56, 3) := dk_167 0 56 (dk_at dksX8_readLine_2 16 rfl rfl)
theorem dX8_readLine_64 : decode cX8_readLine 64 = .ok (.aload_n 0, 1) := dk_42 (dk_at dksX8_readLine_2 19 rfl rfl)
theorem dX8_readLine_65 : decode cX8_readLine 65 = .ok (.ldc 161, 2) := dk_18 161 (dk_at dksX8_readLine_2 20 rfl rfl)
theorem dX8_readLine_67 : decode cX8_readLine 67 = .ok (.invokevirtual 138, 3) := dk_182 0 138 (dk_at dksX8_readLine_3 0 rfl rfl)
theorem dX8_readLine_70 : decode cX8_readLine 70 = .ok (.ifCond .eq 10, 3) := dk_153 0 10 (dk_at dksX8_readLine_3 3 rfl rfl)
theorem dX8_readLine_73 : decode cX8_readLine 73 = .ok (.aload_n 0, 1) := dk_42 (dk_at dksX8_readLine_3 6 rfl rfl)
theorem dX8_readLine_74 : decode cX8_readLine 74 = .ok (.invokevirtual 209, 3) := dk_182 0 209 (dk_at dksX8_readLine_3 7 rfl rfl)
theorem dX8_readLine_77 : decode cX8_readLine 77 = .ok (.goto 40, 3) := dk_167 0 40 (dk_at dksX8_readLine_3 10 rfl rfl)
theorem dX8_readLine_80 : decode cX8_readLine 80 = .ok (.aload_n 0, 1) := dk_42 (dk_at dksX8_readLine_3 13 rfl rfl)
theorem dX8_readLine_81 : decode cX8_readLine 81 = .ok (.ldc 163, 2) := dk_18 163 (dk_at dksX8_readLine_3 14 rfl rfl)
theorem dX8_readLine_83 : decode cX8_readLine 83 = .ok (.invokevirtual 138, 3) := dk_182 0 138 (dk_at dksX8_readLine_3 16 rfl rfl)
theorem dX8_readLine_86 : decode cX8_readLine 86 = .ok (.ifCond .eq 10, 3) := dk_153 0 10 (dk_at dksX8_readLine_3 19 rfl rfl)
theorem dX8_readLine_89 : decode cX8_readLine 89 = .ok (.aload_n 0, 1) := dk_42 (dk_at dksX8_readLine_3 22 rfl rfl)
theorem dX8_readLine_90 : decode cX8_readLine 90 = .ok (.invokevirtual 212, 3) := dk_182 0 212 (dk_at dksX8_readLine_4 0 rfl rfl)
theorem dX8_readLine_93 : decode cX8_readLine 93 = .ok (.goto 24, 3) := dk_167 0 24 (dk_at dksX8_readLine_4 3 rfl rfl)
theorem dX8_readLine_96 : decode cX8_readLine 96 = .ok (.aload_n 0, 1) := dk_42 (dk_at dksX8_readLine_4 6 rfl rfl)
theorem dX8_readLine_97 : decode cX8_readLine 97 = .ok (.ldc 164, 2) := dk_18 164 (dk_at dksX8_readLine_4 7 rfl rfl)
theorem dX8_readLine_99 : decode cX8_readLine 99 = .ok (.invokevirtual 138, 3) := dk_182 0 138 (dk_at dksX8_readLine_4 9 rfl rfl)
theorem dX8_readLine_102 : decode cX8_readLine 102 = .ok (.ifCond .eq 10, 3) := dk_153 0 10 (dk_at dksX8_readLine_4 12 rfl rfl)
theorem dX8_readLine_105 : decode cX8_readLine 105 = .ok (.aload_n 0, 1) := dk_42 (dk_at dksX8_readLine_4 15 rfl rfl)
theorem dX8_readLine_106 : decode cX8_readLine 106 = .ok (.invokevirtual 215, 3) := dk_182 0 215 (dk_at dksX8_readLine_4 16 rfl rfl)
theorem dX8_readLine_109 : decode cX8_readLine 109 = .ok (.goto 8, 3) := dk_167 0 8 (dk_at dksX8_readLine_4 19 rfl rfl)
theorem dX8_readLine_112 : decode cX8_readLine 112 = .ok (.aload_n 0, 1) := dk_42 (dk_at dksX8_readLine_4 22 rfl rfl)
theorem dX8_readLine_113 : decode cX8_readLine 113 = .ok (.iconst 1, 1) := dk_4 (dk_at dksX8_readLine_4 23 rfl rfl)
theorem dX8_readLine_114 : decode cX8_readLine 114 = .ok (.invokevirtual 142, 3) := dk_182 0 142 (dk_at dksX8_readLine_5 0 rfl rfl)
theorem dX8_readLine_117 : decode cX8_readLine 117 = .ok (.return_, 1) := dk_177 (dk_at dksX8_readLine_5 3 rfl rfl)
abbrev cX8_isWord : ByteArray := prog_14_method_15_code
def yX8_isWord : MethodName := ⟨RX8, "isWord", "(Ljava/lang/String;)Z"⟩
def dkwX8_isWord_1 : List UInt8 := [3, 172]
abbrev dktX8_isWord_1 : List UInt8 := dkwX8_isWord_1 ++ []
def dkwX8_isWord_0 : List UInt8 := [42, 180, 0, 94, 5, 160, 0, 19, 42, 180, 0, 114, 43, 184, 0, 134, 148, 154, 0, 7, 4, 167, 0, 4]
abbrev dktX8_isWord_0 : List UInt8 := dkwX8_isWord_0 ++ dktX8_isWord_1
theorem dksX8_isWord_0 : cX8_isWord.data.toList.drop 0 = dktX8_isWord_0 := by decide +kernel
theorem dksX8_isWord_1 : cX8_isWord.data.toList.drop 24 = dktX8_isWord_1 := dk_seg dksX8_isWord_0 24 rfl rfl
theorem dX8_isWord_0 : decode cX8_isWord 0 = .ok (.aload_n 0, 1) := dk_42 (dk_at dksX8_isWord_0 0 rfl rfl)
theorem dX8_isWord_1 : decode cX8_isWord 1 = .ok (.getfield 94, 3) := dk_180 0 94 (dk_at dksX8_isWord_0 1 rfl rfl)
theorem dX8_isWord_4 : decode cX8_isWord 4 = .ok (.iconst 2, 1) := dk_5 (dk_at dksX8_isWord_0 4 rfl rfl)
theorem dX8_isWord_5 : decode cX8_isWord 5 = .ok (.if_icmp .ne 19, 3) := dk_160 0 19 (dk_at dksX8_isWord_0 5 rfl rfl)
theorem dX8_isWord_8 : decode cX8_isWord 8 = .ok (.aload_n 0, 1) := dk_42 (dk_at dksX8_isWord_0 8 rfl rfl)
theorem dX8_isWord_9 : decode cX8_isWord 9 = .ok (.getfield 114, 3) := dk_180 0 114 (dk_at dksX8_isWord_0 9 rfl rfl)
theorem dX8_isWord_12 : decode cX8_isWord 12 = .ok (.aload_n 1, 1) := dk_43 (dk_at dksX8_isWord_0 12 rfl rfl)
theorem dX8_isWord_13 : decode cX8_isWord 13 = .ok (.invokestatic 134, 3) := dk_184 0 134 (dk_at dksX8_isWord_0 13 rfl rfl)
theorem dX8_isWord_16 : decode cX8_isWord 16 = .ok (.lcmp, 1) := dk_148 (dk_at dksX8_isWord_0 16 rfl rfl)
theorem dX8_isWord_17 : decode cX8_isWord 17 = .ok (.ifCond .ne 7, 3) := dk_154 0 7 (dk_at dksX8_isWord_0 17 rfl rfl)
theorem dX8_isWord_20 : decode cX8_isWord 20 = .ok (.iconst 1, 1) := dk_4 (dk_at dksX8_isWord_0 20 rfl rfl)
theorem dX8_isWord_21 : decode cX8_isWord 21 = .ok (.goto 4, 3) := dk_167 0 4 (dk_at dksX8_isWord_0 21 rfl rfl)
theorem dX8_isWord_24 : decode cX8_isWord 24 = .ok (.iconst 0, 1) := dk_3 (dk_at dksX8_isWord_1 0 rfl rfl)
theorem dX8_isWord_25 : decode cX8_isWord 25 = .ok (.ireturn, 1) := dk_172 (dk_at dksX8_isWord_1 1 rfl rfl)
abbrev cX8_wordOf : ByteArray := prog_14_method_11_code
def yX8_wordOf : MethodName := ⟨RX8, "wordOf", "(Ljava/lang/String;)J"⟩
def dkwX8_wordOf_1 : List UInt8 := [100, 4, 96, 133, 97, 64, 132, 3, 1, 167, 255, 227, 31, 173]
abbrev dktX8_wordOf_1 : List UInt8 := dkwX8_wordOf_1 ++ []
def dkwX8_wordOf_0 : List UInt8 := [9, 64, 3, 62, 29, 42, 182, 0, 82, 162, 0, 27, 20, 0, 88, 31, 105, 42, 29, 182, 0, 90, 16, 97]
abbrev dktX8_wordOf_0 : List UInt8 := dkwX8_wordOf_0 ++ dktX8_wordOf_1
theorem dksX8_wordOf_0 : cX8_wordOf.data.toList.drop 0 = dktX8_wordOf_0 := by decide +kernel
theorem dksX8_wordOf_1 : cX8_wordOf.data.toList.drop 24 = dktX8_wordOf_1 := dk_seg dksX8_wordOf_0 24 rfl rfl
theorem dX8_wordOf_0 : decode cX8_wordOf 0 = .ok (.lconst 0, 1) := dk_9 (dk_at dksX8_wordOf_0 0 rfl rfl)
theorem dX8_wordOf_1 : decode cX8_wordOf 1 = .ok (.lstore_n 1, 1) := dk_64 (dk_at dksX8_wordOf_0 1 rfl rfl)
theorem dX8_wordOf_2 : decode cX8_wordOf 2 = .ok (.iconst 0, 1) := dk_3 (dk_at dksX8_wordOf_0 2 rfl rfl)
theorem dX8_wordOf_3 : decode cX8_wordOf 3 = .ok (.istore_n 3, 1) := dk_62 (dk_at dksX8_wordOf_0 3 rfl rfl)
theorem dX8_wordOf_4 : decode cX8_wordOf 4 = .ok (.iload_n 3, 1) := dk_29 (dk_at dksX8_wordOf_0 4 rfl rfl)
theorem dX8_wordOf_5 : decode cX8_wordOf 5 = .ok (.aload_n 0, 1) := dk_42 (dk_at dksX8_wordOf_0 5 rfl rfl)
theorem dX8_wordOf_6 : decode cX8_wordOf 6 = .ok (.invokevirtual 82, 3) := dk_182 0 82 (dk_at dksX8_wordOf_0 6 rfl rfl)
theorem dX8_wordOf_9 : decode cX8_wordOf 9 = .ok (.if_icmp .ge 27, 3) := dk_162 0 27 (dk_at dksX8_wordOf_0 9 rfl rfl)
theorem dX8_wordOf_12 : decode cX8_wordOf 12 = .ok (.ldc2_w 88, 3) := dk_20 0 88 (dk_at dksX8_wordOf_0 12 rfl rfl)
theorem dX8_wordOf_15 : decode cX8_wordOf 15 = .ok (.lload_n 1, 1) := dk_31 (dk_at dksX8_wordOf_0 15 rfl rfl)
theorem dX8_wordOf_16 : decode cX8_wordOf 16 = .ok (.lmul, 1) := dk_105 (dk_at dksX8_wordOf_0 16 rfl rfl)
theorem dX8_wordOf_17 : decode cX8_wordOf 17 = .ok (.aload_n 0, 1) := dk_42 (dk_at dksX8_wordOf_0 17 rfl rfl)
theorem dX8_wordOf_18 : decode cX8_wordOf 18 = .ok (.iload_n 3, 1) := dk_29 (dk_at dksX8_wordOf_0 18 rfl rfl)
theorem dX8_wordOf_19 : decode cX8_wordOf 19 = .ok (.invokevirtual 90, 3) := dk_182 0 90 (dk_at dksX8_wordOf_0 19 rfl rfl)
theorem dX8_wordOf_22 : decode cX8_wordOf 22 = .ok (.bipush 97, 2) := dk_16 97 (dk_at dksX8_wordOf_0 22 rfl rfl)
theorem dX8_wordOf_24 : decode cX8_wordOf 24 = .ok (.isub, 1) := dk_100 (dk_at dksX8_wordOf_1 0 rfl rfl)
theorem dX8_wordOf_25 : decode cX8_wordOf 25 = .ok (.iconst 1, 1) := dk_4 (dk_at dksX8_wordOf_1 1 rfl rfl)
theorem dX8_wordOf_26 : decode cX8_wordOf 26 = .ok (.iadd, 1) := dk_96 (dk_at dksX8_wordOf_1 2 rfl rfl)
theorem dX8_wordOf_27 : decode cX8_wordOf 27 = .ok (.i2l, 1) := dk_133 (dk_at dksX8_wordOf_1 3 rfl rfl)
theorem dX8_wordOf_28 : decode cX8_wordOf 28 = .ok (.ladd, 1) := dk_97 (dk_at dksX8_wordOf_1 4 rfl rfl)
theorem dX8_wordOf_29 : decode cX8_wordOf 29 = .ok (.lstore_n 1, 1) := dk_64 (dk_at dksX8_wordOf_1 5 rfl rfl)
theorem dX8_wordOf_30 : decode cX8_wordOf 30 = .ok (.iinc 3 1, 3) := dk_132 3 1 (dk_at dksX8_wordOf_1 6 rfl rfl)
theorem dX8_wordOf_33 : decode cX8_wordOf 33 = .ok (.goto (-29), 3) := dk_167 255 227 (dk_at dksX8_wordOf_1 9 rfl rfl)
theorem dX8_wordOf_36 : decode cX8_wordOf 36 = .ok (.lload_n 1, 1) := dk_31 (dk_at dksX8_wordOf_1 12 rfl rfl)
theorem dX8_wordOf_37 : decode cX8_wordOf 37 = .ok (.lreturn, 1) := dk_173 (dk_at dksX8_wordOf_1 13 rfl rfl)
abbrev cX8_readDrum : ByteArray := prog_14_method_23_code
def yX8_readDrum : MethodName := ⟨RX8, "readDrum", "()V"⟩
def dkwX8_readDrum_2 : List UInt8 := [182, 0, 223, 42, 180, 0, 172, 42, 16, 10, 17, 0, 200, 182, 0, 227, 181, 0, 233, 177]
abbrev dktX8_readDrum_2 : List UInt8 := dkwX8_readDrum_2 ++ []
def dkwX8_readDrum_1 : List UInt8 := [182, 0, 223, 42, 180, 0, 172, 42, 16, 20, 17, 3, 231, 182, 0, 227, 181, 0, 176, 42, 18, 231]
abbrev dktX8_readDrum_1 : List UInt8 := dkwX8_readDrum_1 ++ dktX8_readDrum_2
def dkwX8_readDrum_0 : List UInt8 := [42, 42, 180, 0, 172, 180, 0, 176, 2, 159, 0, 7, 4, 167, 0, 4, 3, 182, 0, 218, 42, 18, 222]
abbrev dktX8_readDrum_0 : List UInt8 := dkwX8_readDrum_0 ++ dktX8_readDrum_1
theorem dksX8_readDrum_0 : cX8_readDrum.data.toList.drop 0 = dktX8_readDrum_0 := by decide +kernel
theorem dksX8_readDrum_1 : cX8_readDrum.data.toList.drop 23 = dktX8_readDrum_1 := dk_seg dksX8_readDrum_0 23 rfl rfl
theorem dksX8_readDrum_2 : cX8_readDrum.data.toList.drop 45 = dktX8_readDrum_2 := dk_seg dksX8_readDrum_1 22 rfl rfl
theorem dX8_readDrum_0 : decode cX8_readDrum 0 = .ok (.aload_n 0, 1) := dk_42 (dk_at dksX8_readDrum_0 0 rfl rfl)
theorem dX8_readDrum_1 : decode cX8_readDrum 1 = .ok (.aload_n 0, 1) := dk_42 (dk_at dksX8_readDrum_0 1 rfl rfl)
theorem dX8_readDrum_2 : decode cX8_readDrum 2 = .ok (.getfield 172, 3) := dk_180 0 172 (dk_at dksX8_readDrum_0 2 rfl rfl)
theorem dX8_readDrum_5 : decode cX8_readDrum 5 = .ok (.getfield 176, 3) := dk_180 0 176 (dk_at dksX8_readDrum_0 5 rfl rfl)
theorem dX8_readDrum_8 : decode cX8_readDrum 8 = .ok (.iconst (-1), 1) := dk_2 (dk_at dksX8_readDrum_0 8 rfl rfl)
theorem dX8_readDrum_9 : decode cX8_readDrum 9 = .ok (.if_icmp .eq 7, 3) := dk_159 0 7 (dk_at dksX8_readDrum_0 9 rfl rfl)
theorem dX8_readDrum_12 : decode cX8_readDrum 12 = .ok (.iconst 1, 1) := dk_4 (dk_at dksX8_readDrum_0 12 rfl rfl)
theorem dX8_readDrum_13 : decode cX8_readDrum 13 = .ok (.goto 4, 3) := dk_167 0 4 (dk_at dksX8_readDrum_0 13 rfl rfl)
theorem dX8_readDrum_16 : decode cX8_readDrum 16 = .ok (.iconst 0, 1) := dk_3 (dk_at dksX8_readDrum_0 16 rfl rfl)
theorem dX8_readDrum_17 : decode cX8_readDrum 17 = .ok (.invokevirtual 218, 3) := dk_182 0 218 (dk_at dksX8_readDrum_0 17 rfl rfl)
theorem dX8_readDrum_20 : decode cX8_readDrum 20 = .ok (.aload_n 0, 1) := dk_42 (dk_at dksX8_readDrum_0 20 rfl rfl)
theorem dX8_readDrum_21 : decode cX8_readDrum 21 = .ok (.ldc 222, 2) := dk_18 222 (dk_at dksX8_readDrum_0 21 rfl rfl)
theorem dX8_readDrum_23 : decode cX8_readDrum 23 = .ok (.invokevirtual 223, 3) := dk_182 0 223 (dk_at dksX8_readDrum_1 0 rfl rfl)
theorem dX8_readDrum_26 : decode cX8_readDrum 26 = .ok (.aload_n 0, 1) := dk_42 (dk_at dksX8_readDrum_1 3 rfl rfl)
theorem dX8_readDrum_27 : decode cX8_readDrum 27 = .ok (.getfield 172, 3) := dk_180 0 172 (dk_at dksX8_readDrum_1 4 rfl rfl)
theorem dX8_readDrum_30 : decode cX8_readDrum 30 = .ok (.aload_n 0, 1) := dk_42 (dk_at dksX8_readDrum_1 7 rfl rfl)
theorem dX8_readDrum_31 : decode cX8_readDrum 31 = .ok (.bipush 20, 2) := dk_16 20 (dk_at dksX8_readDrum_1 8 rfl rfl)
theorem dX8_readDrum_33 : decode cX8_readDrum 33 = .ok (.sipush 999, 3) := dk_17 3 231 (dk_at dksX8_readDrum_1 10 rfl rfl)
theorem dX8_readDrum_36 : decode cX8_readDrum 36 = .ok (.invokevirtual 227, 3) := dk_182 0 227 (dk_at dksX8_readDrum_1 13 rfl rfl)
theorem dX8_readDrum_39 : decode cX8_readDrum 39 = .ok (.putfield 176, 3) := dk_181 0 176 (dk_at dksX8_readDrum_1 16 rfl rfl)
theorem dX8_readDrum_42 : decode cX8_readDrum 42 = .ok (.aload_n 0, 1) := dk_42 (dk_at dksX8_readDrum_1 19 rfl rfl)
theorem dX8_readDrum_43 : decode cX8_readDrum 43 = .ok (.ldc 231, 2) := dk_18 231 (dk_at dksX8_readDrum_1 20 rfl rfl)
theorem dX8_readDrum_45 : decode cX8_readDrum 45 = .ok (.invokevirtual 223, 3) := dk_182 0 223 (dk_at dksX8_readDrum_2 0 rfl rfl)
theorem dX8_readDrum_48 : decode cX8_readDrum 48 = .ok (.aload_n 0, 1) := dk_42 (dk_at dksX8_readDrum_2 3 rfl rfl)
theorem dX8_readDrum_49 : decode cX8_readDrum 49 = .ok (.getfield 172, 3) := dk_180 0 172 (dk_at dksX8_readDrum_2 4 rfl rfl)
theorem dX8_readDrum_52 : decode cX8_readDrum 52 = .ok (.aload_n 0, 1) := dk_42 (dk_at dksX8_readDrum_2 7 rfl rfl)
theorem dX8_readDrum_53 : decode cX8_readDrum 53 = .ok (.bipush 10, 2) := dk_16 10 (dk_at dksX8_readDrum_2 8 rfl rfl)
theorem dX8_readDrum_55 : decode cX8_readDrum 55 = .ok (.sipush 200, 3) := dk_17 0 200 (dk_at dksX8_readDrum_2 10 rfl rfl)
theorem dX8_readDrum_58 : decode cX8_readDrum 58 = .ok (.invokevirtual 227, 3) := dk_182 0 227 (dk_at dksX8_readDrum_2 13 rfl rfl)
theorem dX8_readDrum_61 : decode cX8_readDrum 61 = .ok (.putfield 233, 3) := dk_181 0 233 (dk_at dksX8_readDrum_2 16 rfl rfl)
theorem dX8_readDrum_64 : decode cX8_readDrum 64 = .ok (.return_, 1) := dk_177 (dk_at dksX8_readDrum_2 19 rfl rfl)
abbrev cX8_once : ByteArray := prog_14_method_22_code
def yX8_once : MethodName := ⟨RX8, "once", "(Z)V"⟩
def dkwX8_once_0 : List UInt8 := [27, 153, 0, 8, 42, 6, 182, 0, 142, 42, 182, 0, 146, 177]
abbrev dktX8_once_0 : List UInt8 := dkwX8_once_0 ++ []
theorem dksX8_once_0 : cX8_once.data.toList.drop 0 = dktX8_once_0 := by decide +kernel
theorem dX8_once_0 : decode cX8_once 0 = .ok (.iload_n 1, 1) := dk_27 (dk_at dksX8_once_0 0 rfl rfl)
theorem dX8_once_1 : decode cX8_once 1 = .ok (.ifCond .eq 8, 3) := dk_153 0 8 (dk_at dksX8_once_0 1 rfl rfl)
theorem dX8_once_4 : decode cX8_once 4 = .ok (.aload_n 0, 1) := dk_42 (dk_at dksX8_once_0 4 rfl rfl)
theorem dX8_once_5 : decode cX8_once 5 = .ok (.iconst 3, 1) := dk_6 (dk_at dksX8_once_0 5 rfl rfl)
theorem dX8_once_6 : decode cX8_once 6 = .ok (.invokevirtual 142, 3) := dk_182 0 142 (dk_at dksX8_once_0 6 rfl rfl)
theorem dX8_once_9 : decode cX8_once 9 = .ok (.aload_n 0, 1) := dk_42 (dk_at dksX8_once_0 9 rfl rfl)
theorem dX8_once_10 : decode cX8_once 10 = .ok (.invokevirtual 146, 3) := dk_182 0 146 (dk_at dksX8_once_0 10 rfl rfl)
theorem dX8_once_13 : decode cX8_once 13 = .ok (.return_, 1) := dk_177 (dk_at dksX8_once_0 13 rfl rfl)
abbrev cX8_wrong : ByteArray := prog_14_method_13_code
def yX8_wrong : MethodName := ⟨RX8, "wrong", "(I)V"⟩
def dkwX8_wrong_0 : List UInt8 := [42, 27, 42, 180, 0, 104, 182, 0, 124, 177]
abbrev dktX8_wrong_0 : List UInt8 := dkwX8_wrong_0 ++ []
theorem dksX8_wrong_0 : cX8_wrong.data.toList.drop 0 = dktX8_wrong_0 := by decide +kernel
theorem dX8_wrong_0 : decode cX8_wrong 0 = .ok (.aload_n 0, 1) := dk_42 (dk_at dksX8_wrong_0 0 rfl rfl)
theorem dX8_wrong_1 : decode cX8_wrong 1 = .ok (.iload_n 1, 1) := dk_27 (dk_at dksX8_wrong_0 1 rfl rfl)
theorem dX8_wrong_2 : decode cX8_wrong 2 = .ok (.aload_n 0, 1) := dk_42 (dk_at dksX8_wrong_0 2 rfl rfl)
theorem dX8_wrong_3 : decode cX8_wrong 3 = .ok (.getfield 104, 3) := dk_180 0 104 (dk_at dksX8_wrong_0 3 rfl rfl)
theorem dX8_wrong_6 : decode cX8_wrong 6 = .ok (.invokevirtual 124, 3) := dk_182 0 124 (dk_at dksX8_wrong_0 6 rfl rfl)
theorem dX8_wrong_9 : decode cX8_wrong 9 = .ok (.return_, 1) := dk_177 (dk_at dksX8_wrong_0 9 rfl rfl)
abbrev cX8_wrongHere : ByteArray := prog_14_method_14_code
def yX8_wrongHere : MethodName := ⟨RX8, "wrongHere", "(II)V"⟩
def dkwX8_wrongHere_1 : List UInt8 := [177]
abbrev dktX8_wrongHere_1 : List UInt8 := dkwX8_wrongHere_1 ++ []
def dkwX8_wrongHere_0 : List UInt8 := [42, 180, 0, 94, 8, 160, 0, 4, 177, 42, 27, 181, 0, 128, 42, 28, 181, 0, 131, 42, 8, 181, 0, 94]
abbrev dktX8_wrongHere_0 : List UInt8 := dkwX8_wrongHere_0 ++ dktX8_wrongHere_1
theorem dksX8_wrongHere_0 : cX8_wrongHere.data.toList.drop 0 = dktX8_wrongHere_0 := by decide +kernel
theorem dksX8_wrongHere_1 : cX8_wrongHere.data.toList.drop 24 = dktX8_wrongHere_1 := dk_seg dksX8_wrongHere_0 24 rfl rfl
theorem dX8_wrongHere_0 : decode cX8_wrongHere 0 = .ok (.aload_n 0, 1) := dk_42 (dk_at dksX8_wrongHere_0 0 rfl rfl)
theorem dX8_wrongHere_1 : decode cX8_wrongHere 1 = .ok (.getfield 94, 3) := dk_180 0 94 (dk_at dksX8_wrongHere_0 1 rfl rfl)
theorem dX8_wrongHere_4 : decode cX8_wrongHere 4 = .ok (.iconst 5, 1) := dk_8 (dk_at dksX8_wrongHere_0 4 rfl rfl)
theorem dX8_wrongHere_5 : decode cX8_wrongHere 5 = .ok (.if_icmp .ne 4, 3) := dk_160 0 4 (dk_at dksX8_wrongHere_0 5 rfl rfl)
theorem dX8_wrongHere_8 : decode cX8_wrongHere 8 = .ok (.return_, 1) := dk_177 (dk_at dksX8_wrongHere_0 8 rfl rfl)
theorem dX8_wrongHere_9 : decode cX8_wrongHere 9 = .ok (.aload_n 0, 1) := dk_42 (dk_at dksX8_wrongHere_0 9 rfl rfl)
theorem dX8_wrongHere_10 : decode cX8_wrongHere 10 = .ok (.iload_n 1, 1) := dk_27 (dk_at dksX8_wrongHere_0 10 rfl rfl)
theorem dX8_wrongHere_11 : decode cX8_wrongHere 11 = .ok (.putfield 128, 3) := dk_181 0 128 (dk_at dksX8_wrongHere_0 11 rfl rfl)
theorem dX8_wrongHere_14 : decode cX8_wrongHere 14 = .ok (.aload_n 0, 1) := dk_42 (dk_at dksX8_wrongHere_0 14 rfl rfl)
theorem dX8_wrongHere_15 : decode cX8_wrongHere 15 = .ok (.iload_n 2, 1) := dk_28 (dk_at dksX8_wrongHere_0 15 rfl rfl)
theorem dX8_wrongHere_16 : decode cX8_wrongHere 16 = .ok (.putfield 131, 3) := dk_181 0 131 (dk_at dksX8_wrongHere_0 16 rfl rfl)
theorem dX8_wrongHere_19 : decode cX8_wrongHere 19 = .ok (.aload_n 0, 1) := dk_42 (dk_at dksX8_wrongHere_0 19 rfl rfl)
theorem dX8_wrongHere_20 : decode cX8_wrongHere 20 = .ok (.iconst 5, 1) := dk_8 (dk_at dksX8_wrongHere_0 20 rfl rfl)
theorem dX8_wrongHere_21 : decode cX8_wrongHere 21 = .ok (.putfield 94, 3) := dk_181 0 94 (dk_at dksX8_wrongHere_0 21 rfl rfl)
theorem dX8_wrongHere_24 : decode cX8_wrongHere 24 = .ok (.return_, 1) := dk_177 (dk_at dksX8_wrongHere_1 0 rfl rfl)
abbrev cX8_needWord : ByteArray := prog_14_method_17_code
def yX8_needWord : MethodName := ⟨RX8, "needWord", "(Ljava/lang/String;)V"⟩
def dkwX8_needWord_0 : List UInt8 := [42, 43, 182, 0, 138, 154, 0, 8, 42, 4, 182, 0, 142, 42, 182, 0, 146, 177]
abbrev dktX8_needWord_0 : List UInt8 := dkwX8_needWord_0 ++ []
theorem dksX8_needWord_0 : cX8_needWord.data.toList.drop 0 = dktX8_needWord_0 := by decide +kernel
theorem dX8_needWord_0 : decode cX8_needWord 0 = .ok (.aload_n 0, 1) := dk_42 (dk_at dksX8_needWord_0 0 rfl rfl)
theorem dX8_needWord_1 : decode cX8_needWord 1 = .ok (.aload_n 1, 1) := dk_43 (dk_at dksX8_needWord_0 1 rfl rfl)
theorem dX8_needWord_2 : decode cX8_needWord 2 = .ok (.invokevirtual 138, 3) := dk_182 0 138 (dk_at dksX8_needWord_0 2 rfl rfl)
theorem dX8_needWord_5 : decode cX8_needWord 5 = .ok (.ifCond .ne 8, 3) := dk_154 0 8 (dk_at dksX8_needWord_0 5 rfl rfl)
theorem dX8_needWord_8 : decode cX8_needWord 8 = .ok (.aload_n 0, 1) := dk_42 (dk_at dksX8_needWord_0 8 rfl rfl)
theorem dX8_needWord_9 : decode cX8_needWord 9 = .ok (.iconst 1, 1) := dk_4 (dk_at dksX8_needWord_0 9 rfl rfl)
theorem dX8_needWord_10 : decode cX8_needWord 10 = .ok (.invokevirtual 142, 3) := dk_182 0 142 (dk_at dksX8_needWord_0 10 rfl rfl)
theorem dX8_needWord_13 : decode cX8_needWord 13 = .ok (.aload_n 0, 1) := dk_42 (dk_at dksX8_needWord_0 13 rfl rfl)
theorem dX8_needWord_14 : decode cX8_needWord 14 = .ok (.invokevirtual 146, 3) := dk_182 0 146 (dk_at dksX8_needWord_0 14 rfl rfl)
theorem dX8_needWord_17 : decode cX8_needWord 17 = .ok (.return_, 1) := dk_177 (dk_at dksX8_needWord_0 17 rfl rfl)
abbrev cX8_readWhole : ByteArray := prog_14_method_18_code
def yX8_readWhole : MethodName := ⟨RX8, "readWhole", "(II)I"⟩
def dkwX8_readWhole_1 : List UInt8 := [184, 0, 149, 154, 0, 8, 42, 7, 182, 0, 142, 42, 180, 0, 121, 62, 42, 182, 0, 146, 29, 172]
abbrev dktX8_readWhole_1 : List UInt8 := dkwX8_readWhole_1 ++ []
def dkwX8_readWhole_0 : List UInt8 := [42, 180, 0, 94, 6, 159, 0, 11, 42, 4, 182, 0, 142, 167, 0, 20, 42, 180, 0, 121, 27, 28]
abbrev dktX8_readWhole_0 : List UInt8 := dkwX8_readWhole_0 ++ dktX8_readWhole_1
theorem dksX8_readWhole_0 : cX8_readWhole.data.toList.drop 0 = dktX8_readWhole_0 := by decide +kernel
theorem dksX8_readWhole_1 : cX8_readWhole.data.toList.drop 22 = dktX8_readWhole_1 := dk_seg dksX8_readWhole_0 22 rfl rfl
theorem dX8_readWhole_0 : decode cX8_readWhole 0 = .ok (.aload_n 0, 1) := dk_42 (dk_at dksX8_readWhole_0 0 rfl rfl)
theorem dX8_readWhole_1 : decode cX8_readWhole 1 = .ok (.getfield 94, 3) := dk_180 0 94 (dk_at dksX8_readWhole_0 1 rfl rfl)
theorem dX8_readWhole_4 : decode cX8_readWhole 4 = .ok (.iconst 3, 1) := dk_6 (dk_at dksX8_readWhole_0 4 rfl rfl)
theorem dX8_readWhole_5 : decode cX8_readWhole 5 = .ok (.if_icmp .eq 11, 3) := dk_159 0 11 (dk_at dksX8_readWhole_0 5 rfl rfl)
theorem dX8_readWhole_8 : decode cX8_readWhole 8 = .ok (.aload_n 0, 1) := dk_42 (dk_at dksX8_readWhole_0 8 rfl rfl)
theorem dX8_readWhole_9 : decode cX8_readWhole 9 = .ok (.iconst 1, 1) := dk_4 (dk_at dksX8_readWhole_0 9 rfl rfl)
theorem dX8_readWhole_10 : decode cX8_readWhole 10 = .ok (.invokevirtual 142, 3) := dk_182 0 142 (dk_at dksX8_readWhole_0 10 rfl rfl)
theorem dX8_readWhole_13 : decode cX8_readWhole 13 = .ok (.goto 20, 3) := dk_167 0 20 (dk_at dksX8_readWhole_0 13 rfl rfl)
theorem dX8_readWhole_16 : decode cX8_readWhole 16 = .ok (.aload_n 0, 1) := dk_42 (dk_at dksX8_readWhole_0 16 rfl rfl)
theorem dX8_readWhole_17 : decode cX8_readWhole 17 = .ok (.getfield 121, 3) := dk_180 0 121 (dk_at dksX8_readWhole_0 17 rfl rfl)
theorem dX8_readWhole_20 : decode cX8_readWhole 20 = .ok (.iload_n 1, 1) := dk_27 (dk_at dksX8_readWhole_0 20 rfl rfl)
theorem dX8_readWhole_21 : decode cX8_readWhole 21 = .ok (.iload_n 2, 1) := dk_28 (dk_at dksX8_readWhole_0 21 rfl rfl)
theorem dX8_readWhole_22 : decode cX8_readWhole 22 = .ok (.invokestatic 149, 3) := dk_184 0 149 (dk_at dksX8_readWhole_1 0 rfl rfl)
theorem dX8_readWhole_25 : decode cX8_readWhole 25 = .ok (.ifCond .ne 8, 3) := dk_154 0 8 (dk_at dksX8_readWhole_1 3 rfl rfl)
theorem dX8_readWhole_28 : decode cX8_readWhole 28 = .ok (.aload_n 0, 1) := dk_42 (dk_at dksX8_readWhole_1 6 rfl rfl)
theorem dX8_readWhole_29 : decode cX8_readWhole 29 = .ok (.iconst 4, 1) := dk_7 (dk_at dksX8_readWhole_1 7 rfl rfl)
theorem dX8_readWhole_30 : decode cX8_readWhole 30 = .ok (.invokevirtual 142, 3) := dk_182 0 142 (dk_at dksX8_readWhole_1 8 rfl rfl)
theorem dX8_readWhole_33 : decode cX8_readWhole 33 = .ok (.aload_n 0, 1) := dk_42 (dk_at dksX8_readWhole_1 11 rfl rfl)
theorem dX8_readWhole_34 : decode cX8_readWhole 34 = .ok (.getfield 121, 3) := dk_180 0 121 (dk_at dksX8_readWhole_1 12 rfl rfl)
theorem dX8_readWhole_37 : decode cX8_readWhole 37 = .ok (.istore_n 3, 1) := dk_62 (dk_at dksX8_readWhole_1 15 rfl rfl)
theorem dX8_readWhole_38 : decode cX8_readWhole 38 = .ok (.aload_n 0, 1) := dk_42 (dk_at dksX8_readWhole_1 16 rfl rfl)
theorem dX8_readWhole_39 : decode cX8_readWhole 39 = .ok (.invokevirtual 146, 3) := dk_182 0 146 (dk_at dksX8_readWhole_1 17 rfl rfl)
theorem dX8_readWhole_42 : decode cX8_readWhole 42 = .ok (.iload_n 3, 1) := dk_29 (dk_at dksX8_readWhole_1 20 rfl rfl)
theorem dX8_readWhole_43 : decode cX8_readWhole 43 = .ok (.ireturn, 1) := dk_172 (dk_at dksX8_readWhole_1 21 rfl rfl)
abbrev cX8_in : ByteArray := prog_14_method_7_code
def yX8_in : MethodName := ⟨RX8, "in", "(III)Z"⟩
def dkwX8_in_0 : List UInt8 := [26, 27, 161, 0, 12, 26, 28, 163, 0, 7, 4, 167, 0, 4, 3, 172]
abbrev dktX8_in_0 : List UInt8 := dkwX8_in_0 ++ []
theorem dksX8_in_0 : cX8_in.data.toList.drop 0 = dktX8_in_0 := by decide +kernel
theorem dX8_in_0 : decode cX8_in 0 = .ok (.iload_n 0, 1) := dk_26 (dk_at dksX8_in_0 0 rfl rfl)
theorem dX8_in_1 : decode cX8_in 1 = .ok (.iload_n 1, 1) := dk_27 (dk_at dksX8_in_0 1 rfl rfl)
theorem dX8_in_2 : decode cX8_in 2 = .ok (.if_icmp .lt 12, 3) := dk_161 0 12 (dk_at dksX8_in_0 2 rfl rfl)
theorem dX8_in_5 : decode cX8_in 5 = .ok (.iload_n 0, 1) := dk_26 (dk_at dksX8_in_0 5 rfl rfl)
theorem dX8_in_6 : decode cX8_in 6 = .ok (.iload_n 2, 1) := dk_28 (dk_at dksX8_in_0 6 rfl rfl)
theorem dX8_in_7 : decode cX8_in 7 = .ok (.if_icmp .gt 7, 3) := dk_163 0 7 (dk_at dksX8_in_0 7 rfl rfl)
theorem dX8_in_10 : decode cX8_in 10 = .ok (.iconst 1, 1) := dk_4 (dk_at dksX8_in_0 10 rfl rfl)
theorem dX8_in_11 : decode cX8_in 11 = .ok (.goto 4, 3) := dk_167 0 4 (dk_at dksX8_in_0 11 rfl rfl)
theorem dX8_in_14 : decode cX8_in 14 = .ok (.iconst 0, 1) := dk_3 (dk_at dksX8_in_0 14 rfl rfl)
theorem dX8_in_15 : decode cX8_in 15 = .ok (.ireturn, 1) := dk_172 (dk_at dksX8_in_0 15 rfl rfl)
abbrev cX8_readSieve : ByteArray := prog_14_method_24_code
def yX8_readSieve : MethodName := ⟨RX8, "readSieve", "()V"⟩
def dkwX8_readSieve_5 : List UInt8 := [177]
abbrev dktX8_readSieve_5 : List UInt8 := dkwX8_readSieve_5 ++ []
def dkwX8_readSieve_4 : List UInt8 := [42, 182, 0, 146, 42, 18, 246, 182, 0, 223, 42, 180, 0, 172, 42, 3, 16, 50, 182, 0, 227, 181, 0, 248]
abbrev dktX8_readSieve_4 : List UInt8 := dkwX8_readSieve_4 ++ dktX8_readSieve_5
def dkwX8_readSieve_3 : List UInt8 := [180, 0, 172, 27, 2, 160, 0, 7, 3, 167, 0, 12, 42, 180, 0, 172, 180, 0, 243, 27, 46, 181, 0, 181]
abbrev dktX8_readSieve_3 : List UInt8 := dkwX8_readSieve_3 ++ dktX8_readSieve_4
def dkwX8_readSieve_2 : List UInt8 := [159, 0, 16, 42, 180, 0, 172, 180, 0, 243, 27, 46, 2, 160, 0, 8, 42, 5, 182, 0, 142, 42]
abbrev dktX8_readSieve_2 : List UInt8 := dkwX8_readSieve_2 ++ dktX8_readSieve_3
def dkwX8_readSieve_1 : List UInt8 := [154, 0, 8, 42, 4, 182, 0, 142, 42, 180, 0, 172, 42, 180, 0, 114, 182, 0, 239, 60, 27, 2]
abbrev dktX8_readSieve_1 : List UInt8 := dkwX8_readSieve_1 ++ dktX8_readSieve_2
def dkwX8_readSieve_0 : List UInt8 := [42, 42, 180, 0, 172, 180, 0, 181, 2, 159, 0, 7, 4, 167, 0, 4, 3, 182, 0, 218, 42, 182, 0, 235]
abbrev dktX8_readSieve_0 : List UInt8 := dkwX8_readSieve_0 ++ dktX8_readSieve_1
theorem dksX8_readSieve_0 : cX8_readSieve.data.toList.drop 0 = dktX8_readSieve_0 := by decide +kernel
theorem dksX8_readSieve_1 : cX8_readSieve.data.toList.drop 24 = dktX8_readSieve_1 := dk_seg dksX8_readSieve_0 24 rfl rfl
theorem dksX8_readSieve_2 : cX8_readSieve.data.toList.drop 46 = dktX8_readSieve_2 := dk_seg dksX8_readSieve_1 22 rfl rfl
theorem dksX8_readSieve_3 : cX8_readSieve.data.toList.drop 68 = dktX8_readSieve_3 := dk_seg dksX8_readSieve_2 22 rfl rfl
theorem dksX8_readSieve_4 : cX8_readSieve.data.toList.drop 92 = dktX8_readSieve_4 := dk_seg dksX8_readSieve_3 24 rfl rfl
theorem dksX8_readSieve_5 : cX8_readSieve.data.toList.drop 116 = dktX8_readSieve_5 := dk_seg dksX8_readSieve_4 24 rfl rfl
theorem dX8_readSieve_0 : decode cX8_readSieve 0 = .ok (.aload_n 0, 1) := dk_42 (dk_at dksX8_readSieve_0 0 rfl rfl)
theorem dX8_readSieve_1 : decode cX8_readSieve 1 = .ok (.aload_n 0, 1) := dk_42 (dk_at dksX8_readSieve_0 1 rfl rfl)
theorem dX8_readSieve_2 : decode cX8_readSieve 2 = .ok (.getfield 172, 3) := dk_180 0 172 (dk_at dksX8_readSieve_0 2 rfl rfl)
theorem dX8_readSieve_5 : decode cX8_readSieve 5 = .ok (.getfield 181, 3) := dk_180 0 181 (dk_at dksX8_readSieve_0 5 rfl rfl)
theorem dX8_readSieve_8 : decode cX8_readSieve 8 = .ok (.iconst (-1), 1) := dk_2 (dk_at dksX8_readSieve_0 8 rfl rfl)
theorem dX8_readSieve_9 : decode cX8_readSieve 9 = .ok (.if_icmp .eq 7, 3) := dk_159 0 7 (dk_at dksX8_readSieve_0 9 rfl rfl)
theorem dX8_readSieve_12 : decode cX8_readSieve 12 = .ok (.iconst 1, 1) := dk_4 (dk_at dksX8_readSieve_0 12 rfl rfl)
theorem dX8_readSieve_13 : decode cX8_readSieve 13 = .ok (.goto 4, 3) := dk_167 0 4 (dk_at dksX8_readSieve_0 13 rfl rfl)
theorem dX8_readSieve_16 : decode cX8_readSieve 16 = .ok (.iconst 0, 1) := dk_3 (dk_at dksX8_readSieve_0 16 rfl rfl)
theorem dX8_readSieve_17 : decode cX8_readSieve 17 = .ok (.invokevirtual 218, 3) := dk_182 0 218 (dk_at dksX8_readSieve_0 17 rfl rfl)
theorem dX8_readSieve_20 : decode cX8_readSieve 20 = .ok (.aload_n 0, 1) := dk_42 (dk_at dksX8_readSieve_0 20 rfl rfl)
theorem dX8_readSieve_21 : decode cX8_readSieve 21 = .ok (.invokevirtual 235, 3) := dk_182 0 235 (dk_at dksX8_readSieve_0 21 rfl rfl)
theorem dX8_readSieve_24 : decode cX8_readSieve 24 = .ok (.ifCond .ne 8, 3) := dk_154 0 8 (dk_at dksX8_readSieve_1 0 rfl rfl)
theorem dX8_readSieve_27 : decode cX8_readSieve 27 = .ok (.aload_n 0, 1) := dk_42 (dk_at dksX8_readSieve_1 3 rfl rfl)
theorem dX8_readSieve_28 : decode cX8_readSieve 28 = .ok (.iconst 1, 1) := dk_4 (dk_at dksX8_readSieve_1 4 rfl rfl)
theorem dX8_readSieve_29 : decode cX8_readSieve 29 = .ok (.invokevirtual 142, 3) := dk_182 0 142 (dk_at dksX8_readSieve_1 5 rfl rfl)
theorem dX8_readSieve_32 : decode cX8_readSieve 32 = .ok (.aload_n 0, 1) := dk_42 (dk_at dksX8_readSieve_1 8 rfl rfl)
theorem dX8_readSieve_33 : decode cX8_readSieve 33 = .ok (.getfield 172, 3) := dk_180 0 172 (dk_at dksX8_readSieve_1 9 rfl rfl)
theorem dX8_readSieve_36 : decode cX8_readSieve 36 = .ok (.aload_n 0, 1) := dk_42 (dk_at dksX8_readSieve_1 12 rfl rfl)
theorem dX8_readSieve_37 : decode cX8_readSieve 37 = .ok (.getfield 114, 3) := dk_180 0 114 (dk_at dksX8_readSieve_1 13 rfl rfl)
theorem dX8_readSieve_40 : decode cX8_readSieve 40 = .ok (.invokevirtual 239, 3) := dk_182 0 239 (dk_at dksX8_readSieve_1 16 rfl rfl)
theorem dX8_readSieve_43 : decode cX8_readSieve 43 = .ok (.istore_n 1, 1) := dk_60 (dk_at dksX8_readSieve_1 19 rfl rfl)
theorem dX8_readSieve_44 : decode cX8_readSieve 44 = .ok (.iload_n 1, 1) := dk_27 (dk_at dksX8_readSieve_1 20 rfl rfl)
theorem dX8_readSieve_45 : decode cX8_readSieve 45 = .ok (.iconst (-1), 1) := dk_2 (dk_at dksX8_readSieve_1 21 rfl rfl)
theorem dX8_readSieve_46 : decode cX8_readSieve 46 = .ok (.if_icmp .eq 16, 3) := dk_159 0 16 (dk_at dksX8_readSieve_2 0 rfl rfl)
theorem dX8_readSieve_49 : decode cX8_readSieve 49 = .ok (.aload_n 0, 1) := dk_42 (dk_at dksX8_readSieve_2 3 rfl rfl)
theorem dX8_readSieve_50 : decode cX8_readSieve 50 = .ok (.getfield 172, 3) := dk_180 0 172 (dk_at dksX8_readSieve_2 4 rfl rfl)
theorem dX8_readSieve_53 : decode cX8_readSieve 53 = .ok (.getfield 243, 3) := dk_180 0 243 (dk_at dksX8_readSieve_2 7 rfl rfl)
theorem dX8_readSieve_56 : decode cX8_readSieve 56 = .ok (.iload_n 1, 1) := dk_27 (dk_at dksX8_readSieve_2 10 rfl rfl)
theorem dX8_readSieve_57 : decode cX8_readSieve 57 = .ok (.iaload, 1) := dk_46 (dk_at dksX8_readSieve_2 11 rfl rfl)
theorem dX8_readSieve_58 : decode cX8_readSieve 58 = .ok (.iconst (-1), 1) := dk_2 (dk_at dksX8_readSieve_2 12 rfl rfl)
theorem dX8_readSieve_59 : decode cX8_readSieve 59 = .ok (.if_icmp .ne 8, 3) := dk_160 0 8 (dk_at dksX8_readSieve_2 13 rfl rfl)
theorem dX8_readSieve_62 : decode cX8_readSieve 62 = .ok (.aload_n 0, 1) := dk_42 (dk_at dksX8_readSieve_2 16 rfl rfl)
theorem dX8_readSieve_63 : decode cX8_readSieve 63 = .ok (.iconst 2, 1) := dk_5 (dk_at dksX8_readSieve_2 17 rfl rfl)
theorem dX8_readSieve_64 : decode cX8_readSieve 64 = .ok (.invokevirtual 142, 3) := dk_182 0 142 (dk_at dksX8_readSieve_2 18 rfl rfl)
theorem dX8_readSieve_67 : decode cX8_readSieve 67 = .ok (.aload_n 0, 1) := dk_42 (dk_at dksX8_readSieve_2 21 rfl rfl)
theorem dX8_readSieve_68 : decode cX8_readSieve 68 = .ok (.getfield 172, 3) := dk_180 0 172 (dk_at dksX8_readSieve_3 0 rfl rfl)
theorem dX8_readSieve_71 : decode cX8_readSieve 71 = .ok (.iload_n 1, 1) := dk_27 (dk_at dksX8_readSieve_3 3 rfl rfl)
theorem dX8_readSieve_72 : decode cX8_readSieve 72 = .ok (.iconst (-1), 1) := dk_2 (dk_at dksX8_readSieve_3 4 rfl rfl)
theorem dX8_readSieve_73 : decode cX8_readSieve 73 = .ok (.if_icmp .ne 7, 3) := dk_160 0 7 (dk_at dksX8_readSieve_3 5 rfl rfl)
theorem dX8_readSieve_76 : decode cX8_readSieve 76 = .ok (.iconst 0, 1) := dk_3 (dk_at dksX8_readSieve_3 8 rfl rfl)
theorem dX8_readSieve_77 : decode cX8_readSieve 77 = .ok (.goto 12, 3) := dk_167 0 12 (dk_at dksX8_readSieve_3 9 rfl rfl)
theorem dX8_readSieve_80 : decode cX8_readSieve 80 = .ok (.aload_n 0, 1) := dk_42 (dk_at dksX8_readSieve_3 12 rfl rfl)
theorem dX8_readSieve_81 : decode cX8_readSieve 81 = .ok (.getfield 172, 3) := dk_180 0 172 (dk_at dksX8_readSieve_3 13 rfl rfl)
theorem dX8_readSieve_84 : decode cX8_readSieve 84 = .ok (.getfield 243, 3) := dk_180 0 243 (dk_at dksX8_readSieve_3 16 rfl rfl)
theorem dX8_readSieve_87 : decode cX8_readSieve 87 = .ok (.iload_n 1, 1) := dk_27 (dk_at dksX8_readSieve_3 19 rfl rfl)
theorem dX8_readSieve_88 : decode cX8_readSieve 88 = .ok (.iaload, 1) := dk_46 (dk_at dksX8_readSieve_3 20 rfl rfl)
theorem dX8_readSieve_89 : decode cX8_readSieve 89 = .ok (.putfield 181, 3) := dk_181 0 181 (dk_at dksX8_readSieve_3 21 rfl rfl)
theorem dX8_readSieve_92 : decode cX8_readSieve 92 = .ok (.aload_n 0, 1) := dk_42 (dk_at dksX8_readSieve_4 0 rfl rfl)
theorem dX8_readSieve_93 : decode cX8_readSieve 93 = .ok (.invokevirtual 146, 3) := dk_182 0 146 (dk_at dksX8_readSieve_4 1 rfl rfl)
theorem dX8_readSieve_96 : decode cX8_readSieve 96 = .ok (.aload_n 0, 1) := dk_42 (dk_at dksX8_readSieve_4 4 rfl rfl)
theorem dX8_readSieve_97 : decode cX8_readSieve 97 = .ok (.ldc 246, 2) := dk_18 246 (dk_at dksX8_readSieve_4 5 rfl rfl)
theorem dX8_readSieve_99 : decode cX8_readSieve 99 = .ok (.invokevirtual 223, 3) := dk_182 0 223 (dk_at dksX8_readSieve_4 7 rfl rfl)
theorem dX8_readSieve_102 : decode cX8_readSieve 102 = .ok (.aload_n 0, 1) := dk_42 (dk_at dksX8_readSieve_4 10 rfl rfl)
theorem dX8_readSieve_103 : decode cX8_readSieve 103 = .ok (.getfield 172, 3) := dk_180 0 172 (dk_at dksX8_readSieve_4 11 rfl rfl)
theorem dX8_readSieve_106 : decode cX8_readSieve 106 = .ok (.aload_n 0, 1) := dk_42 (dk_at dksX8_readSieve_4 14 rfl rfl)
theorem dX8_readSieve_107 : decode cX8_readSieve 107 = .ok (.iconst 0, 1) := dk_3 (dk_at dksX8_readSieve_4 15 rfl rfl)
theorem dX8_readSieve_108 : decode cX8_readSieve 108 = .ok (.bipush 50, 2) := dk_16 50 (dk_at dksX8_readSieve_4 16 rfl rfl)
theorem dX8_readSieve_110 : decode cX8_readSieve 110 = .ok (.invokevirtual 227, 3) := dk_182 0 227 (dk_at dksX8_readSieve_4 18 rfl rfl)
theorem dX8_readSieve_113 : decode cX8_readSieve 113 = .ok (.putfield 248, 3) := dk_181 0 248 (dk_at dksX8_readSieve_4 21 rfl rfl)
theorem dX8_readSieve_116 : decode cX8_readSieve 116 = .ok (.return_, 1) := dk_177 (dk_at dksX8_readSieve_5 0 rfl rfl)
abbrev cX8_isName : ByteArray := prog_14_method_19_code
def yX8_isName : MethodName := ⟨RX8, "isName", "()Z"⟩
def dkwX8_isName_3 : List UInt8 := [4, 167, 0, 4, 3, 172]
abbrev dktX8_isName_3 : List UInt8 := dkwX8_isName_3 ++ []
def dkwX8_isName_2 : List UInt8 := [182, 0, 138, 154, 0, 25, 42, 18, 163, 182, 0, 138, 154, 0, 16, 42, 18, 164, 182, 0, 138, 154, 0, 7]
abbrev dktX8_isName_2 : List UInt8 := dkwX8_isName_2 ++ dktX8_isName_3
def dkwX8_isName_1 : List UInt8 := [154, 0, 52, 42, 18, 157, 182, 0, 138, 154, 0, 43, 42, 18, 159, 182, 0, 138, 154, 0, 34, 42, 18, 161]
abbrev dktX8_isName_1 : List UInt8 := dkwX8_isName_1 ++ dktX8_isName_2
def dkwX8_isName_0 : List UInt8 := [42, 180, 0, 94, 5, 160, 0, 70, 42, 18, 153, 182, 0, 138, 154, 0, 61, 42, 18, 155, 182, 0, 138]
abbrev dktX8_isName_0 : List UInt8 := dkwX8_isName_0 ++ dktX8_isName_1
theorem dksX8_isName_0 : cX8_isName.data.toList.drop 0 = dktX8_isName_0 := by decide +kernel
theorem dksX8_isName_1 : cX8_isName.data.toList.drop 23 = dktX8_isName_1 := dk_seg dksX8_isName_0 23 rfl rfl
theorem dksX8_isName_2 : cX8_isName.data.toList.drop 47 = dktX8_isName_2 := dk_seg dksX8_isName_1 24 rfl rfl
theorem dksX8_isName_3 : cX8_isName.data.toList.drop 71 = dktX8_isName_3 := dk_seg dksX8_isName_2 24 rfl rfl
theorem dX8_isName_0 : decode cX8_isName 0 = .ok (.aload_n 0, 1) := dk_42 (dk_at dksX8_isName_0 0 rfl rfl)
theorem dX8_isName_1 : decode cX8_isName 1 = .ok (.getfield 94, 3) := dk_180 0 94 (dk_at dksX8_isName_0 1 rfl rfl)
theorem dX8_isName_4 : decode cX8_isName 4 = .ok (.iconst 2, 1) := dk_5 (dk_at dksX8_isName_0 4 rfl rfl)
theorem dX8_isName_5 : decode cX8_isName 5 = .ok (.if_icmp .ne 70, 3) := dk_160 0 70 (dk_at dksX8_isName_0 5 rfl rfl)
theorem dX8_isName_8 : decode cX8_isName 8 = .ok (.aload_n 0, 1) := dk_42 (dk_at dksX8_isName_0 8 rfl rfl)
theorem dX8_isName_9 : decode cX8_isName 9 = .ok (.ldc 153, 2) := dk_18 153 (dk_at dksX8_isName_0 9 rfl rfl)
theorem dX8_isName_11 : decode cX8_isName 11 = .ok (.invokevirtual 138, 3) := dk_182 0 138 (dk_at dksX8_isName_0 11 rfl rfl)
theorem dX8_isName_14 : decode cX8_isName 14 = .ok (.ifCond .ne 61, 3) := dk_154 0 61 (dk_at dksX8_isName_0 14 rfl rfl)
theorem dX8_isName_17 : decode cX8_isName 17 = .ok (.aload_n 0, 1) := dk_42 (dk_at dksX8_isName_0 17 rfl rfl)
theorem dX8_isName_18 : decode cX8_isName 18 = .ok (.ldc 155, 2) := dk_18 155 (dk_at dksX8_isName_0 18 rfl rfl)
theorem dX8_isName_20 : decode cX8_isName 20 = .ok (.invokevirtual 138, 3) := dk_182 0 138 (dk_at dksX8_isName_0 20 rfl rfl)
theorem dX8_isName_23 : decode cX8_isName 23 = .ok (.ifCond .ne 52, 3) := dk_154 0 52 (dk_at dksX8_isName_1 0 rfl rfl)
theorem dX8_isName_26 : decode cX8_isName 26 = .ok (.aload_n 0, 1) := dk_42 (dk_at dksX8_isName_1 3 rfl rfl)
theorem dX8_isName_27 : decode cX8_isName 27 = .ok (.ldc 157, 2) := dk_18 157 (dk_at dksX8_isName_1 4 rfl rfl)
theorem dX8_isName_29 : decode cX8_isName 29 = .ok (.invokevirtual 138, 3) := dk_182 0 138 (dk_at dksX8_isName_1 6 rfl rfl)
theorem dX8_isName_32 : decode cX8_isName 32 = .ok (.ifCond .ne 43, 3) := dk_154 0 43 (dk_at dksX8_isName_1 9 rfl rfl)
theorem dX8_isName_35 : decode cX8_isName 35 = .ok (.aload_n 0, 1) := dk_42 (dk_at dksX8_isName_1 12 rfl rfl)
theorem dX8_isName_36 : decode cX8_isName 36 = .ok (.ldc 159, 2) := dk_18 159 (dk_at dksX8_isName_1 13 rfl rfl)
theorem dX8_isName_38 : decode cX8_isName 38 = .ok (.invokevirtual 138, 3) := dk_182 0 138 (dk_at dksX8_isName_1 15 rfl rfl)
theorem dX8_isName_41 : decode cX8_isName 41 = .ok (.ifCond .ne 34, 3) := dk_154 0 34 (dk_at dksX8_isName_1 18 rfl rfl)
theorem dX8_isName_44 : decode cX8_isName 44 = .ok (.aload_n 0, 1) := dk_42 (dk_at dksX8_isName_1 21 rfl rfl)
theorem dX8_isName_45 : decode cX8_isName 45 = .ok (.ldc 161, 2) := dk_18 161 (dk_at dksX8_isName_1 22 rfl rfl)
theorem dX8_isName_47 : decode cX8_isName 47 = .ok (.invokevirtual 138, 3) := dk_182 0 138 (dk_at dksX8_isName_2 0 rfl rfl)
theorem dX8_isName_50 : decode cX8_isName 50 = .ok (.ifCond .ne 25, 3) := dk_154 0 25 (dk_at dksX8_isName_2 3 rfl rfl)
theorem dX8_isName_53 : decode cX8_isName 53 = .ok (.aload_n 0, 1) := dk_42 (dk_at dksX8_isName_2 6 rfl rfl)
theorem dX8_isName_54 : decode cX8_isName 54 = .ok (.ldc 163, 2) := dk_18 163 (dk_at dksX8_isName_2 7 rfl rfl)
theorem dX8_isName_56 : decode cX8_isName 56 = .ok (.invokevirtual 138, 3) := dk_182 0 138 (dk_at dksX8_isName_2 9 rfl rfl)
theorem dX8_isName_59 : decode cX8_isName 59 = .ok (.ifCond .ne 16, 3) := dk_154 0 16 (dk_at dksX8_isName_2 12 rfl rfl)
theorem dX8_isName_62 : decode cX8_isName 62 = .ok (.aload_n 0, 1) := dk_42 (dk_at dksX8_isName_2 15 rfl rfl)
theorem dX8_isName_63 : decode cX8_isName 63 = .ok (.ldc 164, 2) := dk_18 164 (dk_at dksX8_isName_2 16 rfl rfl)
theorem dX8_isName_65 : decode cX8_isName 65 = .ok (.invokevirtual 138, 3) := dk_182 0 138 (dk_at dksX8_isName_2 18 rfl rfl)
theorem dX8_isName_68 : decode cX8_isName 68 = .ok (.ifCond .ne 7, 3) := dk_154 0 7 (dk_at dksX8_isName_2 21 rfl rfl)
theorem dX8_isName_71 : decode cX8_isName 71 = .ok (.iconst 1, 1) := dk_4 (dk_at dksX8_isName_3 0 rfl rfl)
theorem dX8_isName_72 : decode cX8_isName 72 = .ok (.goto 4, 3) := dk_167 0 4 (dk_at dksX8_isName_3 1 rfl rfl)
theorem dX8_isName_75 : decode cX8_isName 75 = .ok (.iconst 0, 1) := dk_3 (dk_at dksX8_isName_3 4 rfl rfl)
theorem dX8_isName_76 : decode cX8_isName 76 = .ok (.ireturn, 1) := dk_172 (dk_at dksX8_isName_3 5 rfl rfl)
abbrev cX8_readLiner : ByteArray := prog_14_method_25_code
def yX8_readLiner : MethodName := ⟨RX8, "readLiner", "()V"⟩
def dkwX8_readLiner_1 : List UInt8 := [42, 4, 17, 0, 200, 182, 0, 227, 181, 0, 183, 177]
abbrev dktX8_readLiner_1 : List UInt8 := dkwX8_readLiner_1 ++ []
def dkwX8_readLiner_0 : List UInt8 := [42, 42, 180, 0, 172, 180, 0, 183, 2, 159, 0, 7, 4, 167, 0, 4, 3, 182, 0, 218, 42, 180, 0, 172]
abbrev dktX8_readLiner_0 : List UInt8 := dkwX8_readLiner_0 ++ dktX8_readLiner_1
theorem dksX8_readLiner_0 : cX8_readLiner.data.toList.drop 0 = dktX8_readLiner_0 := by decide +kernel
theorem dksX8_readLiner_1 : cX8_readLiner.data.toList.drop 24 = dktX8_readLiner_1 := dk_seg dksX8_readLiner_0 24 rfl rfl
theorem dX8_readLiner_0 : decode cX8_readLiner 0 = .ok (.aload_n 0, 1) := dk_42 (dk_at dksX8_readLiner_0 0 rfl rfl)
theorem dX8_readLiner_1 : decode cX8_readLiner 1 = .ok (.aload_n 0, 1) := dk_42 (dk_at dksX8_readLiner_0 1 rfl rfl)
theorem dX8_readLiner_2 : decode cX8_readLiner 2 = .ok (.getfield 172, 3) := dk_180 0 172 (dk_at dksX8_readLiner_0 2 rfl rfl)
theorem dX8_readLiner_5 : decode cX8_readLiner 5 = .ok (.getfield 183, 3) := dk_180 0 183 (dk_at dksX8_readLiner_0 5 rfl rfl)
theorem dX8_readLiner_8 : decode cX8_readLiner 8 = .ok (.iconst (-1), 1) := dk_2 (dk_at dksX8_readLiner_0 8 rfl rfl)
theorem dX8_readLiner_9 : decode cX8_readLiner 9 = .ok (.if_icmp .eq 7, 3) := dk_159 0 7 (dk_at dksX8_readLiner_0 9 rfl rfl)
theorem dX8_readLiner_12 : decode cX8_readLiner 12 = .ok (.iconst 1, 1) := dk_4 (dk_at dksX8_readLiner_0 12 rfl rfl)
theorem dX8_readLiner_13 : decode cX8_readLiner 13 = .ok (.goto 4, 3) := dk_167 0 4 (dk_at dksX8_readLiner_0 13 rfl rfl)
theorem dX8_readLiner_16 : decode cX8_readLiner 16 = .ok (.iconst 0, 1) := dk_3 (dk_at dksX8_readLiner_0 16 rfl rfl)
theorem dX8_readLiner_17 : decode cX8_readLiner 17 = .ok (.invokevirtual 218, 3) := dk_182 0 218 (dk_at dksX8_readLiner_0 17 rfl rfl)
theorem dX8_readLiner_20 : decode cX8_readLiner 20 = .ok (.aload_n 0, 1) := dk_42 (dk_at dksX8_readLiner_0 20 rfl rfl)
theorem dX8_readLiner_21 : decode cX8_readLiner 21 = .ok (.getfield 172, 3) := dk_180 0 172 (dk_at dksX8_readLiner_0 21 rfl rfl)
theorem dX8_readLiner_24 : decode cX8_readLiner 24 = .ok (.aload_n 0, 1) := dk_42 (dk_at dksX8_readLiner_1 0 rfl rfl)
theorem dX8_readLiner_25 : decode cX8_readLiner 25 = .ok (.iconst 1, 1) := dk_4 (dk_at dksX8_readLiner_1 1 rfl rfl)
theorem dX8_readLiner_26 : decode cX8_readLiner 26 = .ok (.sipush 200, 3) := dk_17 0 200 (dk_at dksX8_readLiner_1 2 rfl rfl)
theorem dX8_readLiner_29 : decode cX8_readLiner 29 = .ok (.invokevirtual 227, 3) := dk_182 0 227 (dk_at dksX8_readLiner_1 5 rfl rfl)
theorem dX8_readLiner_32 : decode cX8_readLiner 32 = .ok (.putfield 183, 3) := dk_181 0 183 (dk_at dksX8_readLiner_1 8 rfl rfl)
theorem dX8_readLiner_35 : decode cX8_readLiner 35 = .ok (.return_, 1) := dk_177 (dk_at dksX8_readLiner_1 11 rfl rfl)
abbrev cX8_readBin : ByteArray := prog_14_method_26_code
def yX8_readBin : MethodName := ⟨RX8, "readBin", "()V"⟩
def dkwX8_readBin_2 : List UInt8 := [17, 0, 200, 182, 0, 227, 181, 0, 252, 177]
abbrev dktX8_readBin_2 : List UInt8 := dkwX8_readBin_2 ++ []
def dkwX8_readBin_1 : List UInt8 := [42, 4, 17, 3, 231, 182, 0, 227, 181, 0, 186, 42, 18, 250, 182, 0, 223, 42, 180, 0, 172, 42, 3]
abbrev dktX8_readBin_1 : List UInt8 := dkwX8_readBin_1 ++ dktX8_readBin_2
def dkwX8_readBin_0 : List UInt8 := [42, 42, 180, 0, 172, 180, 0, 186, 2, 159, 0, 7, 4, 167, 0, 4, 3, 182, 0, 218, 42, 180, 0, 172]
abbrev dktX8_readBin_0 : List UInt8 := dkwX8_readBin_0 ++ dktX8_readBin_1
theorem dksX8_readBin_0 : cX8_readBin.data.toList.drop 0 = dktX8_readBin_0 := by decide +kernel
theorem dksX8_readBin_1 : cX8_readBin.data.toList.drop 24 = dktX8_readBin_1 := dk_seg dksX8_readBin_0 24 rfl rfl
theorem dksX8_readBin_2 : cX8_readBin.data.toList.drop 47 = dktX8_readBin_2 := dk_seg dksX8_readBin_1 23 rfl rfl
theorem dX8_readBin_0 : decode cX8_readBin 0 = .ok (.aload_n 0, 1) := dk_42 (dk_at dksX8_readBin_0 0 rfl rfl)
theorem dX8_readBin_1 : decode cX8_readBin 1 = .ok (.aload_n 0, 1) := dk_42 (dk_at dksX8_readBin_0 1 rfl rfl)
theorem dX8_readBin_2 : decode cX8_readBin 2 = .ok (.getfield 172, 3) := dk_180 0 172 (dk_at dksX8_readBin_0 2 rfl rfl)
theorem dX8_readBin_5 : decode cX8_readBin 5 = .ok (.getfield 186, 3) := dk_180 0 186 (dk_at dksX8_readBin_0 5 rfl rfl)
theorem dX8_readBin_8 : decode cX8_readBin 8 = .ok (.iconst (-1), 1) := dk_2 (dk_at dksX8_readBin_0 8 rfl rfl)
theorem dX8_readBin_9 : decode cX8_readBin 9 = .ok (.if_icmp .eq 7, 3) := dk_159 0 7 (dk_at dksX8_readBin_0 9 rfl rfl)
theorem dX8_readBin_12 : decode cX8_readBin 12 = .ok (.iconst 1, 1) := dk_4 (dk_at dksX8_readBin_0 12 rfl rfl)
theorem dX8_readBin_13 : decode cX8_readBin 13 = .ok (.goto 4, 3) := dk_167 0 4 (dk_at dksX8_readBin_0 13 rfl rfl)
theorem dX8_readBin_16 : decode cX8_readBin 16 = .ok (.iconst 0, 1) := dk_3 (dk_at dksX8_readBin_0 16 rfl rfl)
theorem dX8_readBin_17 : decode cX8_readBin 17 = .ok (.invokevirtual 218, 3) := dk_182 0 218 (dk_at dksX8_readBin_0 17 rfl rfl)
theorem dX8_readBin_20 : decode cX8_readBin 20 = .ok (.aload_n 0, 1) := dk_42 (dk_at dksX8_readBin_0 20 rfl rfl)
theorem dX8_readBin_21 : decode cX8_readBin 21 = .ok (.getfield 172, 3) := dk_180 0 172 (dk_at dksX8_readBin_0 21 rfl rfl)
theorem dX8_readBin_24 : decode cX8_readBin 24 = .ok (.aload_n 0, 1) := dk_42 (dk_at dksX8_readBin_1 0 rfl rfl)
theorem dX8_readBin_25 : decode cX8_readBin 25 = .ok (.iconst 1, 1) := dk_4 (dk_at dksX8_readBin_1 1 rfl rfl)
theorem dX8_readBin_26 : decode cX8_readBin 26 = .ok (.sipush 999, 3) := dk_17 3 231 (dk_at dksX8_readBin_1 2 rfl rfl)
theorem dX8_readBin_29 : decode cX8_readBin 29 = .ok (.invokevirtual 227, 3) := dk_182 0 227 (dk_at dksX8_readBin_1 5 rfl rfl)
theorem dX8_readBin_32 : decode cX8_readBin 32 = .ok (.putfield 186, 3) := dk_181 0 186 (dk_at dksX8_readBin_1 8 rfl rfl)
theorem dX8_readBin_35 : decode cX8_readBin 35 = .ok (.aload_n 0, 1) := dk_42 (dk_at dksX8_readBin_1 11 rfl rfl)
theorem dX8_readBin_36 : decode cX8_readBin 36 = .ok (.ldc 250, 2) := dk_18 250 (dk_at dksX8_readBin_1 12 rfl rfl)
theorem dX8_readBin_38 : decode cX8_readBin 38 = .ok (.invokevirtual 223, 3) := dk_182 0 223 (dk_at dksX8_readBin_1 14 rfl rfl)
theorem dX8_readBin_41 : decode cX8_readBin 41 = .ok (.aload_n 0, 1) := dk_42 (dk_at dksX8_readBin_1 17 rfl rfl)
theorem dX8_readBin_42 : decode cX8_readBin 42 = .ok (.getfield 172, 3) := dk_180 0 172 (dk_at dksX8_readBin_1 18 rfl rfl)
theorem dX8_readBin_45 : decode cX8_readBin 45 = .ok (.aload_n 0, 1) := dk_42 (dk_at dksX8_readBin_1 21 rfl rfl)
theorem dX8_readBin_46 : decode cX8_readBin 46 = .ok (.iconst 0, 1) := dk_3 (dk_at dksX8_readBin_1 22 rfl rfl)
theorem dX8_readBin_47 : decode cX8_readBin 47 = .ok (.sipush 200, 3) := dk_17 0 200 (dk_at dksX8_readBin_2 0 rfl rfl)
theorem dX8_readBin_50 : decode cX8_readBin 50 = .ok (.invokevirtual 227, 3) := dk_182 0 227 (dk_at dksX8_readBin_2 3 rfl rfl)
theorem dX8_readBin_53 : decode cX8_readBin 53 = .ok (.putfield 252, 3) := dk_181 0 252 (dk_at dksX8_readBin_2 6 rfl rfl)
theorem dX8_readBin_56 : decode cX8_readBin 56 = .ok (.return_, 1) := dk_177 (dk_at dksX8_readBin_2 9 rfl rfl)
abbrev cX8_readPrices : ByteArray := prog_14_method_27_code
def yX8_readPrices : MethodName := ⟨RX8, "readPrices", "()V"⟩
def dkwX8_readPrices_4 : List UInt8 := [181, 0, 188, 42, 16, 44, 182, 0, 169, 60, 27, 153, 0, 7, 42, 182, 0, 146, 167, 255, 168, 177]
abbrev dktX8_readPrices_4 : List UInt8 := dkwX8_readPrices_4 ++ []
def dkwX8_readPrices_3 : List UInt8 := [180, 0, 254, 42, 180, 0, 172, 180, 0, 188, 29, 79, 42, 180, 0, 172, 89, 180, 0, 188, 4, 96]
abbrev dktX8_readPrices_3 : List UInt8 := dkwX8_readPrices_3 ++ dktX8_readPrices_4
def dkwX8_readPrices_2 : List UInt8 := [16, 6, 160, 0, 9, 42, 8, 28, 182, 0, 124, 42, 180, 0, 94, 8, 160, 0, 4, 177, 42, 180, 0, 172]
abbrev dktX8_readPrices_2 : List UInt8 := dkwX8_readPrices_2 ++ dktX8_readPrices_3
def dkwX8_readPrices_1 : List UInt8 := [153, 0, 90, 42, 180, 0, 104, 61, 42, 3, 16, 99, 182, 0, 227, 62, 42, 180, 0, 172, 180, 0, 188]
abbrev dktX8_readPrices_1 : List UInt8 := dkwX8_readPrices_1 ++ dktX8_readPrices_2
def dkwX8_readPrices_0 : List UInt8 := [42, 42, 180, 0, 172, 180, 0, 188, 158, 0, 7, 4, 167, 0, 4, 3, 182, 0, 218, 4, 60, 27]
abbrev dktX8_readPrices_0 : List UInt8 := dkwX8_readPrices_0 ++ dktX8_readPrices_1
theorem dksX8_readPrices_0 : cX8_readPrices.data.toList.drop 0 = dktX8_readPrices_0 := by decide +kernel
theorem dksX8_readPrices_1 : cX8_readPrices.data.toList.drop 22 = dktX8_readPrices_1 := dk_seg dksX8_readPrices_0 22 rfl rfl
theorem dksX8_readPrices_2 : cX8_readPrices.data.toList.drop 45 = dktX8_readPrices_2 := dk_seg dksX8_readPrices_1 23 rfl rfl
theorem dksX8_readPrices_3 : cX8_readPrices.data.toList.drop 69 = dktX8_readPrices_3 := dk_seg dksX8_readPrices_2 24 rfl rfl
theorem dksX8_readPrices_4 : cX8_readPrices.data.toList.drop 91 = dktX8_readPrices_4 := dk_seg dksX8_readPrices_3 22 rfl rfl
theorem dX8_readPrices_0 : decode cX8_readPrices 0 = .ok (.aload_n 0, 1) := dk_42 (dk_at dksX8_readPrices_0 0 rfl rfl)
theorem dX8_readPrices_1 : decode cX8_readPrices 1 = .ok (.aload_n 0, 1) := dk_42 (dk_at dksX8_readPrices_0 1 rfl rfl)
theorem dX8_readPrices_2 : decode cX8_readPrices 2 = .ok (.getfield 172, 3) := dk_180 0 172 (dk_at dksX8_readPrices_0 2 rfl rfl)
theorem dX8_readPrices_5 : decode cX8_readPrices 5 = .ok (.getfield 188, 3) := dk_180 0 188 (dk_at dksX8_readPrices_0 5 rfl rfl)
theorem dX8_readPrices_8 : decode cX8_readPrices 8 = .ok (.ifCond .le 7, 3) := dk_158 0 7 (dk_at dksX8_readPrices_0 8 rfl rfl)
theorem dX8_readPrices_11 : decode cX8_readPrices 11 = .ok (.iconst 1, 1) := dk_4 (dk_at dksX8_readPrices_0 11 rfl rfl)
theorem dX8_readPrices_12 : decode cX8_readPrices 12 = .ok (.goto 4, 3) := dk_167 0 4 (dk_at dksX8_readPrices_0 12 rfl rfl)
theorem dX8_readPrices_15 : decode cX8_readPrices 15 = .ok (.iconst 0, 1) := dk_3 (dk_at dksX8_readPrices_0 15 rfl rfl)
theorem dX8_readPrices_16 : decode cX8_readPrices 16 = .ok (.invokevirtual 218, 3) := dk_182 0 218 (dk_at dksX8_readPrices_0 16 rfl rfl)
theorem dX8_readPrices_19 : decode cX8_readPrices 19 = .ok (.iconst 1, 1) := dk_4 (dk_at dksX8_readPrices_0 19 rfl rfl)
theorem dX8_readPrices_20 : decode cX8_readPrices 20 = .ok (.istore_n 1, 1) := dk_60 (dk_at dksX8_readPrices_0 20 rfl rfl)
theorem dX8_readPrices_21 : decode cX8_readPrices 21 = .ok (.iload_n 1, 1) := dk_27 (dk_at dksX8_readPrices_0 21 rfl rfl)
theorem dX8_readPrices_22 : decode cX8_readPrices 22 = .ok (.ifCond .eq 90, 3) := dk_153 0 90 (dk_at dksX8_readPrices_1 0 rfl rfl)
theorem dX8_readPrices_25 : decode cX8_readPrices 25 = .ok (.aload_n 0, 1) := dk_42 (dk_at dksX8_readPrices_1 3 rfl rfl)
theorem dX8_readPrices_26 : decode cX8_readPrices 26 = .ok (.getfield 104, 3) := dk_180 0 104 (dk_at dksX8_readPrices_1 4 rfl rfl)
theorem dX8_readPrices_29 : decode cX8_readPrices 29 = .ok (.istore_n 2, 1) := dk_61 (dk_at dksX8_readPrices_1 7 rfl rfl)
theorem dX8_readPrices_30 : decode cX8_readPrices 30 = .ok (.aload_n 0, 1) := dk_42 (dk_at dksX8_readPrices_1 8 rfl rfl)
theorem dX8_readPrices_31 : decode cX8_readPrices 31 = .ok (.iconst 0, 1) := dk_3 (dk_at dksX8_readPrices_1 9 rfl rfl)
theorem dX8_readPrices_32 : decode cX8_readPrices 32 = .ok (.bipush 99, 2) := dk_16 99 (dk_at dksX8_readPrices_1 10 rfl rfl)
theorem dX8_readPrices_34 : decode cX8_readPrices 34 = .ok (.invokevirtual 227, 3) := dk_182 0 227 (dk_at dksX8_readPrices_1 12 rfl rfl)
theorem dX8_readPrices_37 : decode cX8_readPrices 37 = .ok (.istore_n 3, 1) := dk_62 (dk_at dksX8_readPrices_1 15 rfl rfl)
theorem dX8_readPrices_38 : decode cX8_readPrices 38 = .ok (.aload_n 0, 1) := dk_42 (dk_at dksX8_readPrices_1 16 rfl rfl)
theorem dX8_readPrices_39 : decode cX8_readPrices 39 = .ok (.getfield 172, 3) := dk_180 0 172 (dk_at dksX8_readPrices_1 17 rfl rfl)
theorem dX8_readPrices_42 : decode cX8_readPrices 42 = .ok (.getfield 188, 3) := dk_180 0 188 (dk_at dksX8_readPrices_1 20 rfl rfl)
theorem dX8_readPrices_45 : decode cX8_readPrices 45 = .ok (.bipush 6, 2) := dk_16 6 (dk_at dksX8_readPrices_2 0 rfl rfl)
theorem dX8_readPrices_47 : decode cX8_readPrices 47 = .ok (.if_icmp .ne 9, 3) := dk_160 0 9 (dk_at dksX8_readPrices_2 2 rfl rfl)
theorem dX8_readPrices_50 : decode cX8_readPrices 50 = .ok (.aload_n 0, 1) := dk_42 (dk_at dksX8_readPrices_2 5 rfl rfl)
theorem dX8_readPrices_51 : decode cX8_readPrices 51 = .ok (.iconst 5, 1) := dk_8 (dk_at dksX8_readPrices_2 6 rfl rfl)
theorem dX8_readPrices_52 : decode cX8_readPrices 52 = .ok (.iload_n 2, 1) := dk_28 (dk_at dksX8_readPrices_2 7 rfl rfl)
theorem dX8_readPrices_53 : decode cX8_readPrices 53 = .ok (.invokevirtual 124, 3) := dk_182 0 124 (dk_at dksX8_readPrices_2 8 rfl rfl)
theorem dX8_readPrices_56 : decode cX8_readPrices 56 = .ok (.aload_n 0, 1) := dk_42 (dk_at dksX8_readPrices_2 11 rfl rfl)
theorem dX8_readPrices_57 : decode cX8_readPrices 57 = .ok (.getfield 94, 3) := dk_180 0 94 (dk_at dksX8_readPrices_2 12 rfl rfl)
theorem dX8_readPrices_60 : decode cX8_readPrices 60 = .ok (.iconst 5, 1) := dk_8 (dk_at dksX8_readPrices_2 15 rfl rfl)
theorem dX8_readPrices_61 : decode cX8_readPrices 61 = .ok (.if_icmp .ne 4, 3) := dk_160 0 4 (dk_at dksX8_readPrices_2 16 rfl rfl)
theorem dX8_readPrices_64 : decode cX8_readPrices 64 = .ok (.return_, 1) := dk_177 (dk_at dksX8_readPrices_2 19 rfl rfl)
theorem dX8_readPrices_65 : decode cX8_readPrices 65 = .ok (.aload_n 0, 1) := dk_42 (dk_at dksX8_readPrices_2 20 rfl rfl)
theorem dX8_readPrices_66 : decode cX8_readPrices 66 = .ok (.getfield 172, 3) := dk_180 0 172 (dk_at dksX8_readPrices_2 21 rfl rfl)
theorem dX8_readPrices_69 : decode cX8_readPrices 69 = .ok (.getfield 254, 3) := dk_180 0 254 (dk_at dksX8_readPrices_3 0 rfl rfl)
theorem dX8_readPrices_72 : decode cX8_readPrices 72 = .ok (.aload_n 0, 1) := dk_42 (dk_at dksX8_readPrices_3 3 rfl rfl)
theorem dX8_readPrices_73 : decode cX8_readPrices 73 = .ok (.getfield 172, 3) := dk_180 0 172 (dk_at dksX8_readPrices_3 4 rfl rfl)
theorem dX8_readPrices_76 : decode cX8_readPrices 76 = .ok (.getfield 188, 3) := dk_180 0 188 (dk_at dksX8_readPrices_3 7 rfl rfl)
theorem dX8_readPrices_79 : decode cX8_readPrices 79 = .ok (.iload_n 3, 1) := dk_29 (dk_at dksX8_readPrices_3 10 rfl rfl)
theorem dX8_readPrices_80 : decode cX8_readPrices 80 = .ok (.iastore, 1) := dk_79 (dk_at dksX8_readPrices_3 11 rfl rfl)
theorem dX8_readPrices_81 : decode cX8_readPrices 81 = .ok (.aload_n 0, 1) := dk_42 (dk_at dksX8_readPrices_3 12 rfl rfl)
theorem dX8_readPrices_82 : decode cX8_readPrices 82 = .ok (.getfield 172, 3) := dk_180 0 172 (dk_at dksX8_readPrices_3 13 rfl rfl)
theorem dX8_readPrices_85 : decode cX8_readPrices 85 = .ok (.dup, 1) := dk_89 (dk_at dksX8_readPrices_3 16 rfl rfl)
theorem dX8_readPrices_86 : decode cX8_readPrices 86 = .ok (.getfield 188, 3) := dk_180 0 188 (dk_at dksX8_readPrices_3 17 rfl rfl)
theorem dX8_readPrices_89 : decode cX8_readPrices 89 = .ok (.iconst 1, 1) := dk_4 (dk_at dksX8_readPrices_3 20 rfl rfl)
theorem dX8_readPrices_90 : decode cX8_readPrices 90 = .ok (.iadd, 1) := dk_96 (dk_at dksX8_readPrices_3 21 rfl rfl)
theorem dX8_readPrices_91 : decode cX8_readPrices 91 = .ok (.putfield 188, 3) := dk_181 0 188 (dk_at dksX8_readPrices_4 0 rfl rfl)
theorem dX8_readPrices_94 : decode cX8_readPrices 94 = .ok (.aload_n 0, 1) := dk_42 (dk_at dksX8_readPrices_4 3 rfl rfl)
theorem dX8_readPrices_95 : decode cX8_readPrices 95 = .ok (.bipush 44, 2) := dk_16 44 (dk_at dksX8_readPrices_4 4 rfl rfl)
theorem dX8_readPrices_97 : decode cX8_readPrices 97 = .ok (.invokevirtual 169, 3) := dk_182 0 169 (dk_at dksX8_readPrices_4 6 rfl rfl)
theorem dX8_readPrices_100 : decode cX8_readPrices 100 = .ok (.istore_n 1, 1) := dk_60 (dk_at dksX8_readPrices_4 9 rfl rfl)
theorem dX8_readPrices_101 : decode cX8_readPrices 101 = .ok (.iload_n 1, 1) := dk_27 (dk_at dksX8_readPrices_4 10 rfl rfl)
theorem dX8_readPrices_102 : decode cX8_readPrices 102 = .ok (.ifCond .eq 7, 3) := dk_153 0 7 (dk_at dksX8_readPrices_4 11 rfl rfl)
theorem dX8_readPrices_105 : decode cX8_readPrices 105 = .ok (.aload_n 0, 1) := dk_42 (dk_at dksX8_readPrices_4 14 rfl rfl)
theorem dX8_readPrices_106 : decode cX8_readPrices 106 = .ok (.invokevirtual 146, 3) := dk_182 0 146 (dk_at dksX8_readPrices_4 15 rfl rfl)
theorem dX8_readPrices_109 : decode cX8_readPrices 109 = .ok (.goto (-88), 3) := dk_167 255 168 (dk_at dksX8_readPrices_4 18 rfl rfl)
theorem dX8_readPrices_112 : decode cX8_readPrices 112 = .ok (.return_, 1) := dk_177 (dk_at dksX8_readPrices_4 21 rfl rfl)
abbrev cX8_is : ByteArray := prog_14_method_16_code
def yX8_is : MethodName := ⟨RX8, "is", "(I)Z"⟩
def dkwX8_is_0 : List UInt8 := [42, 180, 0, 94, 7, 160, 0, 15, 42, 180, 0, 107, 27, 160, 0, 7, 4, 167, 0, 4, 3, 172]
abbrev dktX8_is_0 : List UInt8 := dkwX8_is_0 ++ []
theorem dksX8_is_0 : cX8_is.data.toList.drop 0 = dktX8_is_0 := by decide +kernel
theorem dX8_is_0 : decode cX8_is 0 = .ok (.aload_n 0, 1) := dk_42 (dk_at dksX8_is_0 0 rfl rfl)
theorem dX8_is_1 : decode cX8_is 1 = .ok (.getfield 94, 3) := dk_180 0 94 (dk_at dksX8_is_0 1 rfl rfl)
theorem dX8_is_4 : decode cX8_is 4 = .ok (.iconst 4, 1) := dk_7 (dk_at dksX8_is_0 4 rfl rfl)
theorem dX8_is_5 : decode cX8_is 5 = .ok (.if_icmp .ne 15, 3) := dk_160 0 15 (dk_at dksX8_is_0 5 rfl rfl)
theorem dX8_is_8 : decode cX8_is 8 = .ok (.aload_n 0, 1) := dk_42 (dk_at dksX8_is_0 8 rfl rfl)
theorem dX8_is_9 : decode cX8_is 9 = .ok (.getfield 107, 3) := dk_180 0 107 (dk_at dksX8_is_0 9 rfl rfl)
theorem dX8_is_12 : decode cX8_is 12 = .ok (.iload_n 1, 1) := dk_27 (dk_at dksX8_is_0 12 rfl rfl)
theorem dX8_is_13 : decode cX8_is 13 = .ok (.if_icmp .ne 7, 3) := dk_160 0 7 (dk_at dksX8_is_0 13 rfl rfl)
theorem dX8_is_16 : decode cX8_is 16 = .ok (.iconst 1, 1) := dk_4 (dk_at dksX8_is_0 16 rfl rfl)
theorem dX8_is_17 : decode cX8_is 17 = .ok (.goto 4, 3) := dk_167 0 4 (dk_at dksX8_is_0 17 rfl rfl)
theorem dX8_is_20 : decode cX8_is 20 = .ok (.iconst 0, 1) := dk_3 (dk_at dksX8_is_0 20 rfl rfl)
theorem dX8_is_21 : decode cX8_is 21 = .ok (.ireturn, 1) := dk_172 (dk_at dksX8_is_0 21 rfl rfl)
abbrev cX8_readSize : ByteArray := prog_14_method_29_code
def yX8_readSize : MethodName := ⟨RX8, "readSize", "()V"⟩
def dkwX8_readSize_5 : List UInt8 := [181, 0, 191, 177]
abbrev dktX8_readSize_5 : List UInt8 := dkwX8_readSize_5 ++ []
def dkwX8_readSize_4 : List UInt8 := [180, 0, 172, 180, 0, 191, 42, 3, 16, 100, 182, 0, 227, 79, 42, 180, 0, 172, 89, 180, 0, 191, 4, 96]
abbrev dktX8_readSize_4 : List UInt8 := dkwX8_readSize_4 ++ dktX8_readSize_5
def dkwX8_readSize_3 : List UInt8 := [42, 3, 16, 100, 182, 0, 227, 79, 42, 19, 1, 13, 182, 0, 223, 42, 180, 0, 172, 180, 1, 14, 42]
abbrev dktX8_readSize_3 : List UInt8 := dkwX8_readSize_3 ++ dktX8_readSize_4
def dkwX8_readSize_2 : List UInt8 := [182, 0, 138, 153, 0, 58, 42, 182, 0, 146, 42, 180, 0, 172, 180, 1, 11, 42, 180, 0, 172, 180, 0, 191]
abbrev dktX8_readSize_2 : List UInt8 := dkwX8_readSize_2 ++ dktX8_readSize_3
def dkwX8_readSize_1 : List UInt8 := [180, 0, 172, 180, 0, 191, 182, 1, 6, 42, 180, 0, 94, 8, 160, 0, 4, 177, 42, 19, 1, 9]
abbrev dktX8_readSize_1 : List UInt8 := dkwX8_readSize_1 ++ dktX8_readSize_2
def dkwX8_readSize_0 : List UInt8 := [42, 180, 0, 172, 180, 0, 191, 8, 160, 0, 8, 42, 8, 182, 0, 142, 42, 182, 0, 146, 42, 42]
abbrev dktX8_readSize_0 : List UInt8 := dkwX8_readSize_0 ++ dktX8_readSize_1
theorem dksX8_readSize_0 : cX8_readSize.data.toList.drop 0 = dktX8_readSize_0 := by decide +kernel
theorem dksX8_readSize_1 : cX8_readSize.data.toList.drop 22 = dktX8_readSize_1 := dk_seg dksX8_readSize_0 22 rfl rfl
theorem dksX8_readSize_2 : cX8_readSize.data.toList.drop 44 = dktX8_readSize_2 := dk_seg dksX8_readSize_1 22 rfl rfl
theorem dksX8_readSize_3 : cX8_readSize.data.toList.drop 68 = dktX8_readSize_3 := dk_seg dksX8_readSize_2 24 rfl rfl
theorem dksX8_readSize_4 : cX8_readSize.data.toList.drop 91 = dktX8_readSize_4 := dk_seg dksX8_readSize_3 23 rfl rfl
theorem dksX8_readSize_5 : cX8_readSize.data.toList.drop 115 = dktX8_readSize_5 := dk_seg dksX8_readSize_4 24 rfl rfl
theorem dX8_readSize_0 : decode cX8_readSize 0 = .ok (.aload_n 0, 1) := dk_42 (dk_at dksX8_readSize_0 0 rfl rfl)
theorem dX8_readSize_1 : decode cX8_readSize 1 = .ok (.getfield 172, 3) := dk_180 0 172 (dk_at dksX8_readSize_0 1 rfl rfl)
theorem dX8_readSize_4 : decode cX8_readSize 4 = .ok (.getfield 191, 3) := dk_180 0 191 (dk_at dksX8_readSize_0 4 rfl rfl)
theorem dX8_readSize_7 : decode cX8_readSize 7 = .ok (.iconst 5, 1) := dk_8 (dk_at dksX8_readSize_0 7 rfl rfl)
theorem dX8_readSize_8 : decode cX8_readSize 8 = .ok (.if_icmp .ne 8, 3) := dk_160 0 8 (dk_at dksX8_readSize_0 8 rfl rfl)
theorem dX8_readSize_11 : decode cX8_readSize 11 = .ok (.aload_n 0, 1) := dk_42 (dk_at dksX8_readSize_0 11 rfl rfl)
theorem dX8_readSize_12 : decode cX8_readSize 12 = .ok (.iconst 5, 1) := dk_8 (dk_at dksX8_readSize_0 12 rfl rfl)
theorem dX8_readSize_13 : decode cX8_readSize 13 = .ok (.invokevirtual 142, 3) := dk_182 0 142 (dk_at dksX8_readSize_0 13 rfl rfl)
theorem dX8_readSize_16 : decode cX8_readSize 16 = .ok (.aload_n 0, 1) := dk_42 (dk_at dksX8_readSize_0 16 rfl rfl)
theorem dX8_readSize_17 : decode cX8_readSize 17 = .ok (.invokevirtual 146, 3) := dk_182 0 146 (dk_at dksX8_readSize_0 17 rfl rfl)
theorem dX8_readSize_20 : decode cX8_readSize 20 = .ok (.aload_n 0, 1) := dk_42 (dk_at dksX8_readSize_0 20 rfl rfl)
theorem dX8_readSize_21 : decode cX8_readSize 21 = .ok (.aload_n 0, 1) := dk_42 (dk_at dksX8_readSize_0 21 rfl rfl)
theorem dX8_readSize_22 : decode cX8_readSize 22 = .ok (.getfield 172, 3) := dk_180 0 172 (dk_at dksX8_readSize_1 0 rfl rfl)
theorem dX8_readSize_25 : decode cX8_readSize 25 = .ok (.getfield 191, 3) := dk_180 0 191 (dk_at dksX8_readSize_1 3 rfl rfl)
theorem dX8_readSize_28 : decode cX8_readSize 28 = .ok (.invokevirtual 262, 3) := dk_182 1 6 (dk_at dksX8_readSize_1 6 rfl rfl)
theorem dX8_readSize_31 : decode cX8_readSize 31 = .ok (.aload_n 0, 1) := dk_42 (dk_at dksX8_readSize_1 9 rfl rfl)
theorem dX8_readSize_32 : decode cX8_readSize 32 = .ok (.getfield 94, 3) := dk_180 0 94 (dk_at dksX8_readSize_1 10 rfl rfl)
theorem dX8_readSize_35 : decode cX8_readSize 35 = .ok (.iconst 5, 1) := dk_8 (dk_at dksX8_readSize_1 13 rfl rfl)
theorem dX8_readSize_36 : decode cX8_readSize 36 = .ok (.if_icmp .ne 4, 3) := dk_160 0 4 (dk_at dksX8_readSize_1 14 rfl rfl)
theorem dX8_readSize_39 : decode cX8_readSize 39 = .ok (.return_, 1) := dk_177 (dk_at dksX8_readSize_1 17 rfl rfl)
theorem dX8_readSize_40 : decode cX8_readSize 40 = .ok (.aload_n 0, 1) := dk_42 (dk_at dksX8_readSize_1 18 rfl rfl)
theorem dX8_readSize_41 : decode cX8_readSize 41 = .ok (.ldc_w 265, 3) := dk_19 1 9 (dk_at dksX8_readSize_1 19 rfl rfl)
theorem dX8_readSize_44 : decode cX8_readSize 44 = .ok (.invokevirtual 138, 3) := dk_182 0 138 (dk_at dksX8_readSize_2 0 rfl rfl)
theorem dX8_readSize_47 : decode cX8_readSize 47 = .ok (.ifCond .eq 58, 3) := dk_153 0 58 (dk_at dksX8_readSize_2 3 rfl rfl)
theorem dX8_readSize_50 : decode cX8_readSize 50 = .ok (.aload_n 0, 1) := dk_42 (dk_at dksX8_readSize_2 6 rfl rfl)
theorem dX8_readSize_51 : decode cX8_readSize 51 = .ok (.invokevirtual 146, 3) := dk_182 0 146 (dk_at dksX8_readSize_2 7 rfl rfl)
theorem dX8_readSize_54 : decode cX8_readSize 54 = .ok (.aload_n 0, 1) := dk_42 (dk_at dksX8_readSize_2 10 rfl rfl)
theorem dX8_readSize_55 : decode cX8_readSize 55 = .ok (.getfield 172, 3) := dk_180 0 172 (dk_at dksX8_readSize_2 11 rfl rfl)
theorem dX8_readSize_58 : decode cX8_readSize 58 = .ok (.getfield 267, 3) := dk_180 1 11 (dk_at dksX8_readSize_2 14 rfl rfl)
theorem dX8_readSize_61 : decode cX8_readSize 61 = .ok (.aload_n 0, 1) := dk_42 (dk_at dksX8_readSize_2 17 rfl rfl)
theorem dX8_readSize_62 : decode cX8_readSize 62 = .ok (.getfield 172, 3) := dk_180 0 172 (dk_at dksX8_readSize_2 18 rfl rfl)
theorem dX8_readSize_65 : decode cX8_readSize 65 = .ok (.getfield 191, 3) := dk_180 0 191 (dk_at dksX8_readSize_2 21 rfl rfl)
theorem dX8_readSize_68 : decode cX8_readSize 68 = .ok (.aload_n 0, 1) := dk_42 (dk_at dksX8_readSize_3 0 rfl rfl)
theorem dX8_readSize_69 : decode cX8_readSize 69 = .ok (.iconst 0, 1) := dk_3 (dk_at dksX8_readSize_3 1 rfl rfl)
theorem dX8_readSize_70 : decode cX8_readSize 70 = .ok (.bipush 100, 2) := dk_16 100 (dk_at dksX8_readSize_3 2 rfl rfl)
theorem dX8_readSize_72 : decode cX8_readSize 72 = .ok (.invokevirtual 227, 3) := dk_182 0 227 (dk_at dksX8_readSize_3 4 rfl rfl)
theorem dX8_readSize_75 : decode cX8_readSize 75 = .ok (.iastore, 1) := dk_79 (dk_at dksX8_readSize_3 7 rfl rfl)
theorem dX8_readSize_76 : decode cX8_readSize 76 = .ok (.aload_n 0, 1) := dk_42 (dk_at dksX8_readSize_3 8 rfl rfl)
theorem dX8_readSize_77 : decode cX8_readSize 77 = .ok (.ldc_w 269, 3) := dk_19 1 13 (dk_at dksX8_readSize_3 9 rfl rfl)
theorem dX8_readSize_80 : decode cX8_readSize 80 = .ok (.invokevirtual 223, 3) := dk_182 0 223 (dk_at dksX8_readSize_3 12 rfl rfl)
theorem dX8_readSize_83 : decode cX8_readSize 83 = .ok (.aload_n 0, 1) := dk_42 (dk_at dksX8_readSize_3 15 rfl rfl)
theorem dX8_readSize_84 : decode cX8_readSize 84 = .ok (.getfield 172, 3) := dk_180 0 172 (dk_at dksX8_readSize_3 16 rfl rfl)
theorem dX8_readSize_87 : decode cX8_readSize 87 = .ok (.getfield 270, 3) := dk_180 1 14 (dk_at dksX8_readSize_3 19 rfl rfl)
theorem dX8_readSize_90 : decode cX8_readSize 90 = .ok (.aload_n 0, 1) := dk_42 (dk_at dksX8_readSize_3 22 rfl rfl)
theorem dX8_readSize_91 : decode cX8_readSize 91 = .ok (.getfield 172, 3) := dk_180 0 172 (dk_at dksX8_readSize_4 0 rfl rfl)
theorem dX8_readSize_94 : decode cX8_readSize 94 = .ok (.getfield 191, 3) := dk_180 0 191 (dk_at dksX8_readSize_4 3 rfl rfl)
theorem dX8_readSize_97 : decode cX8_readSize 97 = .ok (.aload_n 0, 1) := dk_42 (dk_at dksX8_readSize_4 6 rfl rfl)
theorem dX8_readSize_98 : decode cX8_readSize 98 = .ok (.iconst 0, 1) := dk_3 (dk_at dksX8_readSize_4 7 rfl rfl)
theorem dX8_readSize_99 : decode cX8_readSize 99 = .ok (.bipush 100, 2) := dk_16 100 (dk_at dksX8_readSize_4 8 rfl rfl)
theorem dX8_readSize_101 : decode cX8_readSize 101 = .ok (.invokevirtual 227, 3) := dk_182 0 227 (dk_at dksX8_readSize_4 10 rfl rfl)
theorem dX8_readSize_104 : decode cX8_readSize 104 = .ok (.iastore, 1) := dk_79 (dk_at dksX8_readSize_4 13 rfl rfl)
theorem dX8_readSize_105 : decode cX8_readSize 105 = .ok (.aload_n 0, 1) := dk_42 (dk_at dksX8_readSize_4 14 rfl rfl)
theorem dX8_readSize_106 : decode cX8_readSize 106 = .ok (.getfield 172, 3) := dk_180 0 172 (dk_at dksX8_readSize_4 15 rfl rfl)
theorem dX8_readSize_109 : decode cX8_readSize 109 = .ok (.dup, 1) := dk_89 (dk_at dksX8_readSize_4 18 rfl rfl)
theorem dX8_readSize_110 : decode cX8_readSize 110 = .ok (.getfield 191, 3) := dk_180 0 191 (dk_at dksX8_readSize_4 19 rfl rfl)
theorem dX8_readSize_113 : decode cX8_readSize 113 = .ok (.iconst 1, 1) := dk_4 (dk_at dksX8_readSize_4 22 rfl rfl)
theorem dX8_readSize_114 : decode cX8_readSize 114 = .ok (.iadd, 1) := dk_96 (dk_at dksX8_readSize_4 23 rfl rfl)
theorem dX8_readSize_115 : decode cX8_readSize 115 = .ok (.putfield 191, 3) := dk_181 0 191 (dk_at dksX8_readSize_5 0 rfl rfl)
theorem dX8_readSize_118 : decode cX8_readSize 118 = .ok (.return_, 1) := dk_177 (dk_at dksX8_readSize_5 3 rfl rfl)
abbrev cX8_readFresh : ByteArray := prog_14_method_28_code
def yX8_readFresh : MethodName := ⟨RX8, "readFresh", "(I)V"⟩
def dkwX8_readFresh_3 : List UInt8 := [180, 1, 3, 27, 79, 42, 180, 0, 172, 89, 180, 1, 3, 4, 96, 181, 1, 3, 42, 182, 0, 146, 177]
abbrev dktX8_readFresh_3 : List UInt8 := dkwX8_readFresh_3 ++ []
def dkwX8_readFresh_2 : List UInt8 := [42, 180, 0, 172, 180, 1, 3, 42, 180, 0, 114, 80, 42, 180, 0, 172, 180, 0, 243, 42, 180, 0, 172]
abbrev dktX8_readFresh_2 : List UInt8 := dkwX8_readFresh_2 ++ dktX8_readFresh_3
def dkwX8_readFresh_1 : List UInt8 := [159, 0, 8, 42, 6, 182, 0, 142, 42, 180, 0, 94, 8, 160, 0, 4, 177, 42, 180, 0, 172, 180, 1, 0]
abbrev dktX8_readFresh_1 : List UInt8 := dkwX8_readFresh_1 ++ dktX8_readFresh_2
def dkwX8_readFresh_0 : List UInt8 := [42, 182, 0, 235, 154, 0, 8, 42, 4, 182, 0, 142, 42, 180, 0, 172, 42, 180, 0, 114, 182, 0, 239, 2]
abbrev dktX8_readFresh_0 : List UInt8 := dkwX8_readFresh_0 ++ dktX8_readFresh_1
theorem dksX8_readFresh_0 : cX8_readFresh.data.toList.drop 0 = dktX8_readFresh_0 := by decide +kernel
theorem dksX8_readFresh_1 : cX8_readFresh.data.toList.drop 24 = dktX8_readFresh_1 := dk_seg dksX8_readFresh_0 24 rfl rfl
theorem dksX8_readFresh_2 : cX8_readFresh.data.toList.drop 48 = dktX8_readFresh_2 := dk_seg dksX8_readFresh_1 24 rfl rfl
theorem dksX8_readFresh_3 : cX8_readFresh.data.toList.drop 71 = dktX8_readFresh_3 := dk_seg dksX8_readFresh_2 23 rfl rfl
theorem dX8_readFresh_0 : decode cX8_readFresh 0 = .ok (.aload_n 0, 1) := dk_42 (dk_at dksX8_readFresh_0 0 rfl rfl)
theorem dX8_readFresh_1 : decode cX8_readFresh 1 = .ok (.invokevirtual 235, 3) := dk_182 0 235 (dk_at dksX8_readFresh_0 1 rfl rfl)
theorem dX8_readFresh_4 : decode cX8_readFresh 4 = .ok (.ifCond .ne 8, 3) := dk_154 0 8 (dk_at dksX8_readFresh_0 4 rfl rfl)
theorem dX8_readFresh_7 : decode cX8_readFresh 7 = .ok (.aload_n 0, 1) := dk_42 (dk_at dksX8_readFresh_0 7 rfl rfl)
theorem dX8_readFresh_8 : decode cX8_readFresh 8 = .ok (.iconst 1, 1) := dk_4 (dk_at dksX8_readFresh_0 8 rfl rfl)
theorem dX8_readFresh_9 : decode cX8_readFresh 9 = .ok (.invokevirtual 142, 3) := dk_182 0 142 (dk_at dksX8_readFresh_0 9 rfl rfl)
theorem dX8_readFresh_12 : decode cX8_readFresh 12 = .ok (.aload_n 0, 1) := dk_42 (dk_at dksX8_readFresh_0 12 rfl rfl)
theorem dX8_readFresh_13 : decode cX8_readFresh 13 = .ok (.getfield 172, 3) := dk_180 0 172 (dk_at dksX8_readFresh_0 13 rfl rfl)
theorem dX8_readFresh_16 : decode cX8_readFresh 16 = .ok (.aload_n 0, 1) := dk_42 (dk_at dksX8_readFresh_0 16 rfl rfl)
theorem dX8_readFresh_17 : decode cX8_readFresh 17 = .ok (.getfield 114, 3) := dk_180 0 114 (dk_at dksX8_readFresh_0 17 rfl rfl)
theorem dX8_readFresh_20 : decode cX8_readFresh 20 = .ok (.invokevirtual 239, 3) := dk_182 0 239 (dk_at dksX8_readFresh_0 20 rfl rfl)
theorem dX8_readFresh_23 : decode cX8_readFresh 23 = .ok (.iconst (-1), 1) := dk_2 (dk_at dksX8_readFresh_0 23 rfl rfl)
theorem dX8_readFresh_24 : decode cX8_readFresh 24 = .ok (.if_icmp .eq 8, 3) := dk_159 0 8 (dk_at dksX8_readFresh_1 0 rfl rfl)
theorem dX8_readFresh_27 : decode cX8_readFresh 27 = .ok (.aload_n 0, 1) := dk_42 (dk_at dksX8_readFresh_1 3 rfl rfl)
theorem dX8_readFresh_28 : decode cX8_readFresh 28 = .ok (.iconst 3, 1) := dk_6 (dk_at dksX8_readFresh_1 4 rfl rfl)
theorem dX8_readFresh_29 : decode cX8_readFresh 29 = .ok (.invokevirtual 142, 3) := dk_182 0 142 (dk_at dksX8_readFresh_1 5 rfl rfl)
theorem dX8_readFresh_32 : decode cX8_readFresh 32 = .ok (.aload_n 0, 1) := dk_42 (dk_at dksX8_readFresh_1 8 rfl rfl)
theorem dX8_readFresh_33 : decode cX8_readFresh 33 = .ok (.getfield 94, 3) := dk_180 0 94 (dk_at dksX8_readFresh_1 9 rfl rfl)
theorem dX8_readFresh_36 : decode cX8_readFresh 36 = .ok (.iconst 5, 1) := dk_8 (dk_at dksX8_readFresh_1 12 rfl rfl)
theorem dX8_readFresh_37 : decode cX8_readFresh 37 = .ok (.if_icmp .ne 4, 3) := dk_160 0 4 (dk_at dksX8_readFresh_1 13 rfl rfl)
theorem dX8_readFresh_40 : decode cX8_readFresh 40 = .ok (.return_, 1) := dk_177 (dk_at dksX8_readFresh_1 16 rfl rfl)
theorem dX8_readFresh_41 : decode cX8_readFresh 41 = .ok (.aload_n 0, 1) := dk_42 (dk_at dksX8_readFresh_1 17 rfl rfl)
theorem dX8_readFresh_42 : decode cX8_readFresh 42 = .ok (.getfield 172, 3) := dk_180 0 172 (dk_at dksX8_readFresh_1 18 rfl rfl)
theorem dX8_readFresh_45 : decode cX8_readFresh 45 = .ok (.getfield 256, 3) := dk_180 1 0 (dk_at dksX8_readFresh_1 21 rfl rfl)
theorem dX8_readFresh_48 : decode cX8_readFresh 48 = .ok (.aload_n 0, 1) := dk_42 (dk_at dksX8_readFresh_2 0 rfl rfl)
theorem dX8_readFresh_49 : decode cX8_readFresh 49 = .ok (.getfield 172, 3) := dk_180 0 172 (dk_at dksX8_readFresh_2 1 rfl rfl)
theorem dX8_readFresh_52 : decode cX8_readFresh 52 = .ok (.getfield 259, 3) := dk_180 1 3 (dk_at dksX8_readFresh_2 4 rfl rfl)
theorem dX8_readFresh_55 : decode cX8_readFresh 55 = .ok (.aload_n 0, 1) := dk_42 (dk_at dksX8_readFresh_2 7 rfl rfl)
theorem dX8_readFresh_56 : decode cX8_readFresh 56 = .ok (.getfield 114, 3) := dk_180 0 114 (dk_at dksX8_readFresh_2 8 rfl rfl)
theorem dX8_readFresh_59 : decode cX8_readFresh 59 = .ok (.lastore, 1) := dk_80 (dk_at dksX8_readFresh_2 11 rfl rfl)
theorem dX8_readFresh_60 : decode cX8_readFresh 60 = .ok (.aload_n 0, 1) := dk_42 (dk_at dksX8_readFresh_2 12 rfl rfl)
theorem dX8_readFresh_61 : decode cX8_readFresh 61 = .ok (.getfield 172, 3) := dk_180 0 172 (dk_at dksX8_readFresh_2 13 rfl rfl)
theorem dX8_readFresh_64 : decode cX8_readFresh 64 = .ok (.getfield 243, 3) := dk_180 0 243 (dk_at dksX8_readFresh_2 16 rfl rfl)
theorem dX8_readFresh_67 : decode cX8_readFresh 67 = .ok (.aload_n 0, 1) := dk_42 (dk_at dksX8_readFresh_2 19 rfl rfl)
theorem dX8_readFresh_68 : decode cX8_readFresh 68 = .ok (.getfield 172, 3) := dk_180 0 172 (dk_at dksX8_readFresh_2 20 rfl rfl)
theorem dX8_readFresh_71 : decode cX8_readFresh 71 = .ok (.getfield 259, 3) := dk_180 1 3 (dk_at dksX8_readFresh_3 0 rfl rfl)
theorem dX8_readFresh_74 : decode cX8_readFresh 74 = .ok (.iload_n 1, 1) := dk_27 (dk_at dksX8_readFresh_3 3 rfl rfl)
theorem dX8_readFresh_75 : decode cX8_readFresh 75 = .ok (.iastore, 1) := dk_79 (dk_at dksX8_readFresh_3 4 rfl rfl)
theorem dX8_readFresh_76 : decode cX8_readFresh 76 = .ok (.aload_n 0, 1) := dk_42 (dk_at dksX8_readFresh_3 5 rfl rfl)
theorem dX8_readFresh_77 : decode cX8_readFresh 77 = .ok (.getfield 172, 3) := dk_180 0 172 (dk_at dksX8_readFresh_3 6 rfl rfl)
theorem dX8_readFresh_80 : decode cX8_readFresh 80 = .ok (.dup, 1) := dk_89 (dk_at dksX8_readFresh_3 9 rfl rfl)
theorem dX8_readFresh_81 : decode cX8_readFresh 81 = .ok (.getfield 259, 3) := dk_180 1 3 (dk_at dksX8_readFresh_3 10 rfl rfl)
theorem dX8_readFresh_84 : decode cX8_readFresh 84 = .ok (.iconst 1, 1) := dk_4 (dk_at dksX8_readFresh_3 13 rfl rfl)
theorem dX8_readFresh_85 : decode cX8_readFresh 85 = .ok (.iadd, 1) := dk_96 (dk_at dksX8_readFresh_3 14 rfl rfl)
theorem dX8_readFresh_86 : decode cX8_readFresh 86 = .ok (.putfield 259, 3) := dk_181 1 3 (dk_at dksX8_readFresh_3 15 rfl rfl)
theorem dX8_readFresh_89 : decode cX8_readFresh 89 = .ok (.aload_n 0, 1) := dk_42 (dk_at dksX8_readFresh_3 18 rfl rfl)
theorem dX8_readFresh_90 : decode cX8_readFresh 90 = .ok (.invokevirtual 146, 3) := dk_182 0 146 (dk_at dksX8_readFresh_3 19 rfl rfl)
theorem dX8_readFresh_93 : decode cX8_readFresh 93 = .ok (.return_, 1) := dk_177 (dk_at dksX8_readFresh_3 22 rfl rfl)
abbrev cX8_readOre : ByteArray := prog_14_method_30_code
def yX8_readOre : MethodName := ⟨RX8, "readOre", "()V"⟩
def dkwX8_readOre_7 : List UInt8 := [167, 255, 171, 42, 180, 0, 172, 89, 180, 0, 194, 4, 96, 181, 0, 194, 177]
abbrev dktX8_readOre_7 : List UInt8 := dkwX8_readOre_7 ++ []
def dkwX8_readOre_6 : List UInt8 := [29, 96, 21, 5, 79, 42, 16, 44, 182, 0, 169, 61, 28, 153, 0, 7, 42, 182, 0, 146, 132, 3, 1]
abbrev dktX8_readOre_6 : List UInt8 := dkwX8_readOre_6 ++ dktX8_readOre_7
def dkwX8_readOre_5 : List UInt8 := [180, 0, 94, 8, 160, 0, 4, 177, 42, 180, 0, 172, 180, 1, 22, 8, 42, 180, 0, 172, 180, 0, 194, 104]
abbrev dktX8_readOre_5 : List UInt8 := dkwX8_readOre_5 ++ dktX8_readOre_6
def dkwX8_readOre_4 : List UInt8 := [182, 0, 227, 54, 5, 29, 42, 180, 0, 172, 180, 0, 191, 161, 0, 10, 42, 8, 21, 4, 182, 0, 124, 42]
abbrev dktX8_readOre_4 : List UInt8 := dkwX8_readOre_4 ++ dktX8_readOre_5
def dkwX8_readOre_3 : List UInt8 := [180, 0, 194, 27, 79, 4, 61, 3, 62, 28, 153, 0, 87, 42, 180, 0, 104, 54, 4, 42, 3, 16, 50]
abbrev dktX8_readOre_3 : List UInt8 := dkwX8_readOre_3 ++ dktX8_readOre_4
def dkwX8_readOre_2 : List UInt8 := [182, 0, 223, 42, 180, 0, 94, 8, 160, 0, 4, 177, 42, 180, 0, 172, 180, 1, 20, 42, 180, 0, 172]
abbrev dktX8_readOre_2 : List UInt8 := dkwX8_readOre_2 ++ dktX8_readOre_3
def dkwX8_readOre_1 : List UInt8 := [182, 1, 6, 42, 19, 1, 16, 182, 0, 223, 42, 4, 16, 9, 182, 0, 227, 60, 42, 19, 1, 18]
abbrev dktX8_readOre_1 : List UInt8 := dkwX8_readOre_1 ++ dktX8_readOre_2
def dkwX8_readOre_0 : List UInt8 := [42, 180, 0, 172, 180, 0, 194, 7, 160, 0, 8, 42, 8, 182, 0, 142, 42, 182, 0, 146, 42, 2]
abbrev dktX8_readOre_0 : List UInt8 := dkwX8_readOre_0 ++ dktX8_readOre_1
theorem dksX8_readOre_0 : cX8_readOre.data.toList.drop 0 = dktX8_readOre_0 := by decide +kernel
theorem dksX8_readOre_1 : cX8_readOre.data.toList.drop 22 = dktX8_readOre_1 := dk_seg dksX8_readOre_0 22 rfl rfl
theorem dksX8_readOre_2 : cX8_readOre.data.toList.drop 44 = dktX8_readOre_2 := dk_seg dksX8_readOre_1 22 rfl rfl
theorem dksX8_readOre_3 : cX8_readOre.data.toList.drop 67 = dktX8_readOre_3 := dk_seg dksX8_readOre_2 23 rfl rfl
theorem dksX8_readOre_4 : cX8_readOre.data.toList.drop 90 = dktX8_readOre_4 := dk_seg dksX8_readOre_3 23 rfl rfl
theorem dksX8_readOre_5 : cX8_readOre.data.toList.drop 114 = dktX8_readOre_5 := dk_seg dksX8_readOre_4 24 rfl rfl
theorem dksX8_readOre_6 : cX8_readOre.data.toList.drop 138 = dktX8_readOre_6 := dk_seg dksX8_readOre_5 24 rfl rfl
theorem dksX8_readOre_7 : cX8_readOre.data.toList.drop 161 = dktX8_readOre_7 := dk_seg dksX8_readOre_6 23 rfl rfl
theorem dX8_readOre_0 : decode cX8_readOre 0 = .ok (.aload_n 0, 1) := dk_42 (dk_at dksX8_readOre_0 0 rfl rfl)
theorem dX8_readOre_1 : decode cX8_readOre 1 = .ok (.getfield 172, 3) := dk_180 0 172 (dk_at dksX8_readOre_0 1 rfl rfl)
theorem dX8_readOre_4 : decode cX8_readOre 4 = .ok (.getfield 194, 3) := dk_180 0 194 (dk_at dksX8_readOre_0 4 rfl rfl)
theorem dX8_readOre_7 : decode cX8_readOre 7 = .ok (.iconst 4, 1) := dk_7 (dk_at dksX8_readOre_0 7 rfl rfl)
theorem dX8_readOre_8 : decode cX8_readOre 8 = .ok (.if_icmp .ne 8, 3) := dk_160 0 8 (dk_at dksX8_readOre_0 8 rfl rfl)
theorem dX8_readOre_11 : decode cX8_readOre 11 = .ok (.aload_n 0, 1) := dk_42 (dk_at dksX8_readOre_0 11 rfl rfl)
theorem dX8_readOre_12 : decode cX8_readOre 12 = .ok (.iconst 5, 1) := dk_8 (dk_at dksX8_readOre_0 12 rfl rfl)
theorem dX8_readOre_13 : decode cX8_readOre 13 = .ok (.invokevirtual 142, 3) := dk_182 0 142 (dk_at dksX8_readOre_0 13 rfl rfl)
theorem dX8_readOre_16 : decode cX8_readOre 16 = .ok (.aload_n 0, 1) := dk_42 (dk_at dksX8_readOre_0 16 rfl rfl)
theorem dX8_readOre_17 : decode cX8_readOre 17 = .ok (.invokevirtual 146, 3) := dk_182 0 146 (dk_at dksX8_readOre_0 17 rfl rfl)
theorem dX8_readOre_20 : decode cX8_readOre 20 = .ok (.aload_n 0, 1) := dk_42 (dk_at dksX8_readOre_0 20 rfl rfl)
theorem dX8_readOre_21 : decode cX8_readOre 21 = .ok (.iconst (-1), 1) := dk_2 (dk_at dksX8_readOre_0 21 rfl rfl)
theorem dX8_readOre_22 : decode cX8_readOre 22 = .ok (.invokevirtual 262, 3) := dk_182 1 6 (dk_at dksX8_readOre_1 0 rfl rfl)
theorem dX8_readOre_25 : decode cX8_readOre 25 = .ok (.aload_n 0, 1) := dk_42 (dk_at dksX8_readOre_1 3 rfl rfl)
theorem dX8_readOre_26 : decode cX8_readOre 26 = .ok (.ldc_w 272, 3) := dk_19 1 16 (dk_at dksX8_readOre_1 4 rfl rfl)
theorem dX8_readOre_29 : decode cX8_readOre 29 = .ok (.invokevirtual 223, 3) := dk_182 0 223 (dk_at dksX8_readOre_1 7 rfl rfl)
theorem dX8_readOre_32 : decode cX8_readOre 32 = .ok (.aload_n 0, 1) := dk_42 (dk_at dksX8_readOre_1 10 rfl rfl)
theorem dX8_readOre_33 : decode cX8_readOre 33 = .ok (.iconst 1, 1) := dk_4 (dk_at dksX8_readOre_1 11 rfl rfl)
theorem dX8_readOre_34 : decode cX8_readOre 34 = .ok (.bipush 9, 2) := dk_16 9 (dk_at dksX8_readOre_1 12 rfl rfl)
theorem dX8_readOre_36 : decode cX8_readOre 36 = .ok (.invokevirtual 227, 3) := dk_182 0 227 (dk_at dksX8_readOre_1 14 rfl rfl)
theorem dX8_readOre_39 : decode cX8_readOre 39 = .ok (.istore_n 1, 1) := dk_60 (dk_at dksX8_readOre_1 17 rfl rfl)
theorem dX8_readOre_40 : decode cX8_readOre 40 = .ok (.aload_n 0, 1) := dk_42 (dk_at dksX8_readOre_1 18 rfl rfl)
theorem dX8_readOre_41 : decode cX8_readOre 41 = .ok (.ldc_w 274, 3) := dk_19 1 18 (dk_at dksX8_readOre_1 19 rfl rfl)
theorem dX8_readOre_44 : decode cX8_readOre 44 = .ok (.invokevirtual 223, 3) := dk_182 0 223 (dk_at dksX8_readOre_2 0 rfl rfl)
theorem dX8_readOre_47 : decode cX8_readOre 47 = .ok (.aload_n 0, 1) := dk_42 (dk_at dksX8_readOre_2 3 rfl rfl)
theorem dX8_readOre_48 : decode cX8_readOre 48 = .ok (.getfield 94, 3) := dk_180 0 94 (dk_at dksX8_readOre_2 4 rfl rfl)
theorem dX8_readOre_51 : decode cX8_readOre 51 = .ok (.iconst 5, 1) := dk_8 (dk_at dksX8_readOre_2 7 rfl rfl)
theorem dX8_readOre_52 : decode cX8_readOre 52 = .ok (.if_icmp .ne 4, 3) := dk_160 0 4 (dk_at dksX8_readOre_2 8 rfl rfl)
theorem dX8_readOre_55 : decode cX8_readOre 55 = .ok (.return_, 1) := dk_177 (dk_at dksX8_readOre_2 11 rfl rfl)
theorem dX8_readOre_56 : decode cX8_readOre 56 = .ok (.aload_n 0, 1) := dk_42 (dk_at dksX8_readOre_2 12 rfl rfl)
theorem dX8_readOre_57 : decode cX8_readOre 57 = .ok (.getfield 172, 3) := dk_180 0 172 (dk_at dksX8_readOre_2 13 rfl rfl)
theorem dX8_readOre_60 : decode cX8_readOre 60 = .ok (.getfield 276, 3) := dk_180 1 20 (dk_at dksX8_readOre_2 16 rfl rfl)
theorem dX8_readOre_63 : decode cX8_readOre 63 = .ok (.aload_n 0, 1) := dk_42 (dk_at dksX8_readOre_2 19 rfl rfl)
theorem dX8_readOre_64 : decode cX8_readOre 64 = .ok (.getfield 172, 3) := dk_180 0 172 (dk_at dksX8_readOre_2 20 rfl rfl)
theorem dX8_readOre_67 : decode cX8_readOre 67 = .ok (.getfield 194, 3) := dk_180 0 194 (dk_at dksX8_readOre_3 0 rfl rfl)
theorem dX8_readOre_70 : decode cX8_readOre 70 = .ok (.iload_n 1, 1) := dk_27 (dk_at dksX8_readOre_3 3 rfl rfl)
theorem dX8_readOre_71 : decode cX8_readOre 71 = .ok (.iastore, 1) := dk_79 (dk_at dksX8_readOre_3 4 rfl rfl)
theorem dX8_readOre_72 : decode cX8_readOre 72 = .ok (.iconst 1, 1) := dk_4 (dk_at dksX8_readOre_3 5 rfl rfl)
theorem dX8_readOre_73 : decode cX8_readOre 73 = .ok (.istore_n 2, 1) := dk_61 (dk_at dksX8_readOre_3 6 rfl rfl)
theorem dX8_readOre_74 : decode cX8_readOre 74 = .ok (.iconst 0, 1) := dk_3 (dk_at dksX8_readOre_3 7 rfl rfl)
theorem dX8_readOre_75 : decode cX8_readOre 75 = .ok (.istore_n 3, 1) := dk_62 (dk_at dksX8_readOre_3 8 rfl rfl)
theorem dX8_readOre_76 : decode cX8_readOre 76 = .ok (.iload_n 2, 1) := dk_28 (dk_at dksX8_readOre_3 9 rfl rfl)
theorem dX8_readOre_77 : decode cX8_readOre 77 = .ok (.ifCond .eq 87, 3) := dk_153 0 87 (dk_at dksX8_readOre_3 10 rfl rfl)
theorem dX8_readOre_80 : decode cX8_readOre 80 = .ok (.aload_n 0, 1) := dk_42 (dk_at dksX8_readOre_3 13 rfl rfl)
theorem dX8_readOre_81 : decode cX8_readOre 81 = .ok (.getfield 104, 3) := dk_180 0 104 (dk_at dksX8_readOre_3 14 rfl rfl)
theorem dX8_readOre_84 : decode cX8_readOre 84 = .ok (.istore 4, 2) := dk_54 4 (dk_at dksX8_readOre_3 17 rfl rfl)
theorem dX8_readOre_86 : decode cX8_readOre 86 = .ok (.aload_n 0, 1) := dk_42 (dk_at dksX8_readOre_3 19 rfl rfl)
theorem dX8_readOre_87 : decode cX8_readOre 87 = .ok (.iconst 0, 1) := dk_3 (dk_at dksX8_readOre_3 20 rfl rfl)
theorem dX8_readOre_88 : decode cX8_readOre 88 = .ok (.bipush 50, 2) := dk_16 50 (dk_at dksX8_readOre_3 21 rfl rfl)
theorem dX8_readOre_90 : decode cX8_readOre 90 = .ok (.invokevirtual 227, 3) := dk_182 0 227 (dk_at dksX8_readOre_4 0 rfl rfl)
theorem dX8_readOre_93 : decode cX8_readOre 93 = .ok (.istore 5, 2) := dk_54 5 (dk_at dksX8_readOre_4 3 rfl rfl)
theorem dX8_readOre_95 : decode cX8_readOre 95 = .ok (.iload_n 3, 1) := dk_29 (dk_at dksX8_readOre_4 5 rfl rfl)
theorem dX8_readOre_96 : decode cX8_readOre 96 = .ok (.aload_n 0, 1) := dk_42 (dk_at dksX8_readOre_4 6 rfl rfl)
theorem dX8_readOre_97 : decode cX8_readOre 97 = .ok (.getfield 172, 3) := dk_180 0 172 (dk_at dksX8_readOre_4 7 rfl rfl)
theorem dX8_readOre_100 : decode cX8_readOre 100 = .ok (.getfield 191, 3) := dk_180 0 191 (dk_at dksX8_readOre_4 10 rfl rfl)
theorem dX8_readOre_103 : decode cX8_readOre 103 = .ok (.if_icmp .lt 10, 3) := dk_161 0 10 (dk_at dksX8_readOre_4 13 rfl rfl)
theorem dX8_readOre_106 : decode cX8_readOre 106 = .ok (.aload_n 0, 1) := dk_42 (dk_at dksX8_readOre_4 16 rfl rfl)
theorem dX8_readOre_107 : decode cX8_readOre 107 = .ok (.iconst 5, 1) := dk_8 (dk_at dksX8_readOre_4 17 rfl rfl)
theorem dX8_readOre_108 : decode cX8_readOre 108 = .ok (.iload 4, 2) := dk_21 4 (dk_at dksX8_readOre_4 18 rfl rfl)
theorem dX8_readOre_110 : decode cX8_readOre 110 = .ok (.invokevirtual 124, 3) := dk_182 0 124 (dk_at dksX8_readOre_4 20 rfl rfl)
theorem dX8_readOre_113 : decode cX8_readOre 113 = .ok (.aload_n 0, 1) := dk_42 (dk_at dksX8_readOre_4 23 rfl rfl)
theorem dX8_readOre_114 : decode cX8_readOre 114 = .ok (.getfield 94, 3) := dk_180 0 94 (dk_at dksX8_readOre_5 0 rfl rfl)
theorem dX8_readOre_117 : decode cX8_readOre 117 = .ok (.iconst 5, 1) := dk_8 (dk_at dksX8_readOre_5 3 rfl rfl)
theorem dX8_readOre_118 : decode cX8_readOre 118 = .ok (.if_icmp .ne 4, 3) := dk_160 0 4 (dk_at dksX8_readOre_5 4 rfl rfl)
theorem dX8_readOre_121 : decode cX8_readOre 121 = .ok (.return_, 1) := dk_177 (dk_at dksX8_readOre_5 7 rfl rfl)
theorem dX8_readOre_122 : decode cX8_readOre 122 = .ok (.aload_n 0, 1) := dk_42 (dk_at dksX8_readOre_5 8 rfl rfl)
theorem dX8_readOre_123 : decode cX8_readOre 123 = .ok (.getfield 172, 3) := dk_180 0 172 (dk_at dksX8_readOre_5 9 rfl rfl)
theorem dX8_readOre_126 : decode cX8_readOre 126 = .ok (.getfield 278, 3) := dk_180 1 22 (dk_at dksX8_readOre_5 12 rfl rfl)
theorem dX8_readOre_129 : decode cX8_readOre 129 = .ok (.iconst 5, 1) := dk_8 (dk_at dksX8_readOre_5 15 rfl rfl)
theorem dX8_readOre_130 : decode cX8_readOre 130 = .ok (.aload_n 0, 1) := dk_42 (dk_at dksX8_readOre_5 16 rfl rfl)
theorem dX8_readOre_131 : decode cX8_readOre 131 = .ok (.getfield 172, 3) := dk_180 0 172 (dk_at dksX8_readOre_5 17 rfl rfl)
theorem dX8_readOre_134 : decode cX8_readOre 134 = .ok (.getfield 194, 3) := dk_180 0 194 (dk_at dksX8_readOre_5 20 rfl rfl)
theorem dX8_readOre_137 : decode cX8_readOre 137 = .ok (.imul, 1) := dk_104 (dk_at dksX8_readOre_5 23 rfl rfl)
theorem dX8_readOre_138 : decode cX8_readOre 138 = .ok (.iload_n 3, 1) := dk_29 (dk_at dksX8_readOre_6 0 rfl rfl)
theorem dX8_readOre_139 : decode cX8_readOre 139 = .ok (.iadd, 1) := dk_96 (dk_at dksX8_readOre_6 1 rfl rfl)
theorem dX8_readOre_140 : decode cX8_readOre 140 = .ok (.iload 5, 2) := dk_21 5 (dk_at dksX8_readOre_6 2 rfl rfl)
theorem dX8_readOre_142 : decode cX8_readOre 142 = .ok (.iastore, 1) := dk_79 (dk_at dksX8_readOre_6 4 rfl rfl)
theorem dX8_readOre_143 : decode cX8_readOre 143 = .ok (.aload_n 0, 1) := dk_42 (dk_at dksX8_readOre_6 5 rfl rfl)
theorem dX8_readOre_144 : decode cX8_readOre 144 = .ok (.bipush 44, 2) := dk_16 44 (dk_at dksX8_readOre_6 6 rfl rfl)
theorem dX8_readOre_146 : decode cX8_readOre 146 = .ok (.invokevirtual 169, 3) := dk_182 0 169 (dk_at dksX8_readOre_6 8 rfl rfl)
theorem dX8_readOre_149 : decode cX8_readOre 149 = .ok (.istore_n 2, 1) := dk_61 (dk_at dksX8_readOre_6 11 rfl rfl)
theorem dX8_readOre_150 : decode cX8_readOre 150 = .ok (.iload_n 2, 1) := dk_28 (dk_at dksX8_readOre_6 12 rfl rfl)
theorem dX8_readOre_151 : decode cX8_readOre 151 = .ok (.ifCond .eq 7, 3) := dk_153 0 7 (dk_at dksX8_readOre_6 13 rfl rfl)
theorem dX8_readOre_154 : decode cX8_readOre 154 = .ok (.aload_n 0, 1) := dk_42 (dk_at dksX8_readOre_6 16 rfl rfl)
theorem dX8_readOre_155 : decode cX8_readOre 155 = .ok (.invokevirtual 146, 3) := dk_182 0 146 (dk_at dksX8_readOre_6 17 rfl rfl)
theorem dX8_readOre_158 : decode cX8_readOre 158 = .ok (.iinc 3 1, 3) := dk_132 3 1 (dk_at dksX8_readOre_6 20 rfl rfl)
theorem dX8_readOre_161 : decode cX8_readOre 161 = .ok (.goto (-85), 3) := dk_167 255 171 (dk_at dksX8_readOre_7 0 rfl rfl)
theorem dX8_readOre_164 : decode cX8_readOre 164 = .ok (.aload_n 0, 1) := dk_42 (dk_at dksX8_readOre_7 3 rfl rfl)
theorem dX8_readOre_165 : decode cX8_readOre 165 = .ok (.getfield 172, 3) := dk_180 0 172 (dk_at dksX8_readOre_7 4 rfl rfl)
theorem dX8_readOre_168 : decode cX8_readOre 168 = .ok (.dup, 1) := dk_89 (dk_at dksX8_readOre_7 7 rfl rfl)
theorem dX8_readOre_169 : decode cX8_readOre 169 = .ok (.getfield 194, 3) := dk_180 0 194 (dk_at dksX8_readOre_7 8 rfl rfl)
theorem dX8_readOre_172 : decode cX8_readOre 172 = .ok (.iconst 1, 1) := dk_4 (dk_at dksX8_readOre_7 11 rfl rfl)
theorem dX8_readOre_173 : decode cX8_readOre 173 = .ok (.iadd, 1) := dk_96 (dk_at dksX8_readOre_7 12 rfl rfl)
theorem dX8_readOre_174 : decode cX8_readOre 174 = .ok (.putfield 194, 3) := dk_181 0 194 (dk_at dksX8_readOre_7 13 rfl rfl)
theorem dX8_readOre_177 : decode cX8_readOre 177 = .ok (.return_, 1) := dk_177 (dk_at dksX8_readOre_7 16 rfl rfl)
abbrev cX8_done : ByteArray := prog_14_method_5_code
def yX8_done : MethodName := ⟨RX8, "done", "(I)I"⟩
def dkwX8_done_0 : List UInt8 := [42, 3, 181, 0, 76, 42, 2, 181, 0, 9, 27, 172]
abbrev dktX8_done_0 : List UInt8 := dkwX8_done_0 ++ []
theorem dksX8_done_0 : cX8_done.data.toList.drop 0 = dktX8_done_0 := by decide +kernel
theorem dX8_done_0 : decode cX8_done 0 = .ok (.aload_n 0, 1) := dk_42 (dk_at dksX8_done_0 0 rfl rfl)
theorem dX8_done_1 : decode cX8_done 1 = .ok (.iconst 0, 1) := dk_3 (dk_at dksX8_done_0 1 rfl rfl)
theorem dX8_done_2 : decode cX8_done 2 = .ok (.putfield 76, 3) := dk_181 0 76 (dk_at dksX8_done_0 2 rfl rfl)
theorem dX8_done_5 : decode cX8_done 5 = .ok (.aload_n 0, 1) := dk_42 (dk_at dksX8_done_0 5 rfl rfl)
theorem dX8_done_6 : decode cX8_done 6 = .ok (.iconst (-1), 1) := dk_2 (dk_at dksX8_done_0 6 rfl rfl)
theorem dX8_done_7 : decode cX8_done 7 = .ok (.putfield 9, 3) := dk_181 0 9 (dk_at dksX8_done_0 7 rfl rfl)
theorem dX8_done_10 : decode cX8_done 10 = .ok (.iload_n 1, 1) := dk_27 (dk_at dksX8_done_0 10 rfl rfl)
theorem dX8_done_11 : decode cX8_done 11 = .ok (.ireturn, 1) := dk_172 (dk_at dksX8_done_0 11 rfl rfl)
abbrev cX8_fault : ByteArray := prog_14_method_33_code
def yX8_fault : MethodName := ⟨RX8, "fault", "()I"⟩
def dkwX8_fault_0 : List UInt8 := [42, 3, 181, 0, 73, 42, 180, 0, 128, 172]
abbrev dktX8_fault_0 : List UInt8 := dkwX8_fault_0 ++ []
theorem dksX8_fault_0 : cX8_fault.data.toList.drop 0 = dktX8_fault_0 := by decide +kernel
theorem dX8_fault_0 : decode cX8_fault 0 = .ok (.aload_n 0, 1) := dk_42 (dk_at dksX8_fault_0 0 rfl rfl)
theorem dX8_fault_1 : decode cX8_fault 1 = .ok (.iconst 0, 1) := dk_3 (dk_at dksX8_fault_0 1 rfl rfl)
theorem dX8_fault_2 : decode cX8_fault 2 = .ok (.putfield 73, 3) := dk_181 0 73 (dk_at dksX8_fault_0 2 rfl rfl)
theorem dX8_fault_5 : decode cX8_fault 5 = .ok (.aload_n 0, 1) := dk_42 (dk_at dksX8_fault_0 5 rfl rfl)
theorem dX8_fault_6 : decode cX8_fault 6 = .ok (.getfield 128, 3) := dk_180 0 128 (dk_at dksX8_fault_0 6 rfl rfl)
theorem dX8_fault_9 : decode cX8_fault 9 = .ok (.ireturn, 1) := dk_172 (dk_at dksX8_fault_0 9 rfl rfl)
abbrev cX8_where : ByteArray := prog_14_method_34_code
def yX8_where : MethodName := ⟨RX8, "where", "()I"⟩
def dkwX8_where_0 : List UInt8 := [42, 3, 181, 0, 73, 42, 180, 0, 9, 172]
abbrev dktX8_where_0 : List UInt8 := dkwX8_where_0 ++ []
theorem dksX8_where_0 : cX8_where.data.toList.drop 0 = dktX8_where_0 := by decide +kernel
theorem dX8_where_0 : decode cX8_where 0 = .ok (.aload_n 0, 1) := dk_42 (dk_at dksX8_where_0 0 rfl rfl)
theorem dX8_where_1 : decode cX8_where 1 = .ok (.iconst 0, 1) := dk_3 (dk_at dksX8_where_0 1 rfl rfl)
theorem dX8_where_2 : decode cX8_where 2 = .ok (.putfield 73, 3) := dk_181 0 73 (dk_at dksX8_where_0 2 rfl rfl)
theorem dX8_where_5 : decode cX8_where 5 = .ok (.aload_n 0, 1) := dk_42 (dk_at dksX8_where_0 5 rfl rfl)
theorem dX8_where_6 : decode cX8_where 6 = .ok (.getfield 9, 3) := dk_180 0 9 (dk_at dksX8_where_0 6 rfl rfl)
theorem dX8_where_9 : decode cX8_where 9 = .ok (.ireturn, 1) := dk_172 (dk_at dksX8_where_0 9 rfl rfl)
abbrev cX8_set : ByteArray := prog_14_method_42_code
def yX8_set : MethodName := ⟨RX8, "set", "(III)Z"⟩
def dkwX8_set_3 : List UInt8 := [182, 1, 73, 172]
abbrev dktX8_set_3 : List UInt8 := dkwX8_set_3 ++ []
def dkwX8_set_2 : List UInt8 := [180, 0, 17, 16, 34, 27, 79, 42, 180, 0, 17, 16, 35, 28, 79, 42, 180, 0, 17, 16, 36, 29, 79, 42]
abbrev dktX8_set_2 : List UInt8 := dkwX8_set_2 ++ dktX8_set_3
def dkwX8_set_1 : List UInt8 := [184, 0, 149, 153, 0, 12, 28, 3, 6, 184, 0, 149, 154, 0, 9, 42, 5, 182, 1, 70, 172, 42]
abbrev dktX8_set_1 : List UInt8 := dkwX8_set_1 ++ dktX8_set_2
def dkwX8_set_0 : List UInt8 := [42, 3, 181, 0, 73, 42, 29, 182, 1, 67, 154, 0, 9, 42, 4, 182, 1, 70, 172, 27, 3, 6]
abbrev dktX8_set_0 : List UInt8 := dkwX8_set_0 ++ dktX8_set_1
theorem dksX8_set_0 : cX8_set.data.toList.drop 0 = dktX8_set_0 := by decide +kernel
theorem dksX8_set_1 : cX8_set.data.toList.drop 22 = dktX8_set_1 := dk_seg dksX8_set_0 22 rfl rfl
theorem dksX8_set_2 : cX8_set.data.toList.drop 44 = dktX8_set_2 := dk_seg dksX8_set_1 22 rfl rfl
theorem dksX8_set_3 : cX8_set.data.toList.drop 68 = dktX8_set_3 := dk_seg dksX8_set_2 24 rfl rfl
theorem dX8_set_0 : decode cX8_set 0 = .ok (.aload_n 0, 1) := dk_42 (dk_at dksX8_set_0 0 rfl rfl)
theorem dX8_set_1 : decode cX8_set 1 = .ok (.iconst 0, 1) := dk_3 (dk_at dksX8_set_0 1 rfl rfl)
theorem dX8_set_2 : decode cX8_set 2 = .ok (.putfield 73, 3) := dk_181 0 73 (dk_at dksX8_set_0 2 rfl rfl)
theorem dX8_set_5 : decode cX8_set 5 = .ok (.aload_n 0, 1) := dk_42 (dk_at dksX8_set_0 5 rfl rfl)
theorem dX8_set_6 : decode cX8_set 6 = .ok (.iload_n 3, 1) := dk_29 (dk_at dksX8_set_0 6 rfl rfl)
theorem dX8_set_7 : decode cX8_set 7 = .ok (.invokevirtual 323, 3) := dk_182 1 67 (dk_at dksX8_set_0 7 rfl rfl)
theorem dX8_set_10 : decode cX8_set 10 = .ok (.ifCond .ne 9, 3) := dk_154 0 9 (dk_at dksX8_set_0 10 rfl rfl)
theorem dX8_set_13 : decode cX8_set 13 = .ok (.aload_n 0, 1) := dk_42 (dk_at dksX8_set_0 13 rfl rfl)
theorem dX8_set_14 : decode cX8_set 14 = .ok (.iconst 1, 1) := dk_4 (dk_at dksX8_set_0 14 rfl rfl)
theorem dX8_set_15 : decode cX8_set 15 = .ok (.invokevirtual 326, 3) := dk_182 1 70 (dk_at dksX8_set_0 15 rfl rfl)
theorem dX8_set_18 : decode cX8_set 18 = .ok (.ireturn, 1) := dk_172 (dk_at dksX8_set_0 18 rfl rfl)
theorem dX8_set_19 : decode cX8_set 19 = .ok (.iload_n 1, 1) := dk_27 (dk_at dksX8_set_0 19 rfl rfl)
theorem dX8_set_20 : decode cX8_set 20 = .ok (.iconst 0, 1) := dk_3 (dk_at dksX8_set_0 20 rfl rfl)
theorem dX8_set_21 : decode cX8_set 21 = .ok (.iconst 3, 1) := dk_6 (dk_at dksX8_set_0 21 rfl rfl)
theorem dX8_set_22 : decode cX8_set 22 = .ok (.invokestatic 149, 3) := dk_184 0 149 (dk_at dksX8_set_1 0 rfl rfl)
theorem dX8_set_25 : decode cX8_set 25 = .ok (.ifCond .eq 12, 3) := dk_153 0 12 (dk_at dksX8_set_1 3 rfl rfl)
theorem dX8_set_28 : decode cX8_set 28 = .ok (.iload_n 2, 1) := dk_28 (dk_at dksX8_set_1 6 rfl rfl)
theorem dX8_set_29 : decode cX8_set 29 = .ok (.iconst 0, 1) := dk_3 (dk_at dksX8_set_1 7 rfl rfl)
theorem dX8_set_30 : decode cX8_set 30 = .ok (.iconst 3, 1) := dk_6 (dk_at dksX8_set_1 8 rfl rfl)
theorem dX8_set_31 : decode cX8_set 31 = .ok (.invokestatic 149, 3) := dk_184 0 149 (dk_at dksX8_set_1 9 rfl rfl)
theorem dX8_set_34 : decode cX8_set 34 = .ok (.ifCond .ne 9, 3) := dk_154 0 9 (dk_at dksX8_set_1 12 rfl rfl)
theorem dX8_set_37 : decode cX8_set 37 = .ok (.aload_n 0, 1) := dk_42 (dk_at dksX8_set_1 15 rfl rfl)
theorem dX8_set_38 : decode cX8_set 38 = .ok (.iconst 2, 1) := dk_5 (dk_at dksX8_set_1 16 rfl rfl)
theorem dX8_set_39 : decode cX8_set 39 = .ok (.invokevirtual 326, 3) := dk_182 1 70 (dk_at dksX8_set_1 17 rfl rfl)
theorem dX8_set_42 : decode cX8_set 42 = .ok (.ireturn, 1) := dk_172 (dk_at dksX8_set_1 20 rfl rfl)
theorem dX8_set_43 : decode cX8_set 43 = .ok (.aload_n 0, 1) := dk_42 (dk_at dksX8_set_1 21 rfl rfl)
theorem dX8_set_44 : decode cX8_set 44 = .ok (.getfield 17, 3) := dk_180 0 17 (dk_at dksX8_set_2 0 rfl rfl)
theorem dX8_set_47 : decode cX8_set 47 = .ok (.bipush 34, 2) := dk_16 34 (dk_at dksX8_set_2 3 rfl rfl)
theorem dX8_set_49 : decode cX8_set 49 = .ok (.iload_n 1, 1) := dk_27 (dk_at dksX8_set_2 5 rfl rfl)
theorem dX8_set_50 : decode cX8_set 50 = .ok (.iastore, 1) := dk_79 (dk_at dksX8_set_2 6 rfl rfl)
theorem dX8_set_51 : decode cX8_set 51 = .ok (.aload_n 0, 1) := dk_42 (dk_at dksX8_set_2 7 rfl rfl)
theorem dX8_set_52 : decode cX8_set 52 = .ok (.getfield 17, 3) := dk_180 0 17 (dk_at dksX8_set_2 8 rfl rfl)
theorem dX8_set_55 : decode cX8_set 55 = .ok (.bipush 35, 2) := dk_16 35 (dk_at dksX8_set_2 11 rfl rfl)
theorem dX8_set_57 : decode cX8_set 57 = .ok (.iload_n 2, 1) := dk_28 (dk_at dksX8_set_2 13 rfl rfl)
theorem dX8_set_58 : decode cX8_set 58 = .ok (.iastore, 1) := dk_79 (dk_at dksX8_set_2 14 rfl rfl)
theorem dX8_set_59 : decode cX8_set 59 = .ok (.aload_n 0, 1) := dk_42 (dk_at dksX8_set_2 15 rfl rfl)
theorem dX8_set_60 : decode cX8_set 60 = .ok (.getfield 17, 3) := dk_180 0 17 (dk_at dksX8_set_2 16 rfl rfl)
theorem dX8_set_63 : decode cX8_set 63 = .ok (.bipush 36, 2) := dk_16 36 (dk_at dksX8_set_2 19 rfl rfl)
theorem dX8_set_65 : decode cX8_set 65 = .ok (.iload_n 3, 1) := dk_29 (dk_at dksX8_set_2 21 rfl rfl)
theorem dX8_set_66 : decode cX8_set 66 = .ok (.iastore, 1) := dk_79 (dk_at dksX8_set_2 22 rfl rfl)
theorem dX8_set_67 : decode cX8_set 67 = .ok (.aload_n 0, 1) := dk_42 (dk_at dksX8_set_2 23 rfl rfl)
theorem dX8_set_68 : decode cX8_set 68 = .ok (.invokevirtual 329, 3) := dk_182 1 73 (dk_at dksX8_set_3 0 rfl rfl)
theorem dX8_set_71 : decode cX8_set 71 = .ok (.ireturn, 1) := dk_172 (dk_at dksX8_set_3 3 rfl rfl)
abbrev cX8_isOre : ByteArray := prog_14_method_41_code
def yX8_isOre : MethodName := ⟨RX8, "isOre", "(I)Z"⟩
def dkwX8_isOre_1 : List UInt8 := [167, 0, 4, 3, 172]
abbrev dktX8_isOre_1 : List UInt8 := dkwX8_isOre_1 ++ []
def dkwX8_isOre_0 : List UInt8 := [42, 180, 1, 34, 198, 0, 22, 27, 155, 0, 18, 27, 42, 180, 1, 34, 180, 0, 194, 162, 0, 7, 4]
abbrev dktX8_isOre_0 : List UInt8 := dkwX8_isOre_0 ++ dktX8_isOre_1
theorem dksX8_isOre_0 : cX8_isOre.data.toList.drop 0 = dktX8_isOre_0 := by decide +kernel
theorem dksX8_isOre_1 : cX8_isOre.data.toList.drop 23 = dktX8_isOre_1 := dk_seg dksX8_isOre_0 23 rfl rfl
theorem dX8_isOre_0 : decode cX8_isOre 0 = .ok (.aload_n 0, 1) := dk_42 (dk_at dksX8_isOre_0 0 rfl rfl)
theorem dX8_isOre_1 : decode cX8_isOre 1 = .ok (.getfield 290, 3) := dk_180 1 34 (dk_at dksX8_isOre_0 1 rfl rfl)
theorem dX8_isOre_4 : decode cX8_isOre 4 = .ok (.ifnull 22, 3) := dk_198 0 22 (dk_at dksX8_isOre_0 4 rfl rfl)
theorem dX8_isOre_7 : decode cX8_isOre 7 = .ok (.iload_n 1, 1) := dk_27 (dk_at dksX8_isOre_0 7 rfl rfl)
theorem dX8_isOre_8 : decode cX8_isOre 8 = .ok (.ifCond .lt 18, 3) := dk_155 0 18 (dk_at dksX8_isOre_0 8 rfl rfl)
theorem dX8_isOre_11 : decode cX8_isOre 11 = .ok (.iload_n 1, 1) := dk_27 (dk_at dksX8_isOre_0 11 rfl rfl)
theorem dX8_isOre_12 : decode cX8_isOre 12 = .ok (.aload_n 0, 1) := dk_42 (dk_at dksX8_isOre_0 12 rfl rfl)
theorem dX8_isOre_13 : decode cX8_isOre 13 = .ok (.getfield 290, 3) := dk_180 1 34 (dk_at dksX8_isOre_0 13 rfl rfl)
theorem dX8_isOre_16 : decode cX8_isOre 16 = .ok (.getfield 194, 3) := dk_180 0 194 (dk_at dksX8_isOre_0 16 rfl rfl)
theorem dX8_isOre_19 : decode cX8_isOre 19 = .ok (.if_icmp .ge 7, 3) := dk_162 0 7 (dk_at dksX8_isOre_0 19 rfl rfl)
theorem dX8_isOre_22 : decode cX8_isOre 22 = .ok (.iconst 1, 1) := dk_4 (dk_at dksX8_isOre_0 22 rfl rfl)
theorem dX8_isOre_23 : decode cX8_isOre 23 = .ok (.goto 4, 3) := dk_167 0 4 (dk_at dksX8_isOre_1 0 rfl rfl)
theorem dX8_isOre_26 : decode cX8_isOre 26 = .ok (.iconst 0, 1) := dk_3 (dk_at dksX8_isOre_1 3 rfl rfl)
theorem dX8_isOre_27 : decode cX8_isOre 27 = .ok (.ireturn, 1) := dk_172 (dk_at dksX8_isOre_1 4 rfl rfl)
abbrev cX8_denied : ByteArray := prog_14_method_4_code
def yX8_denied : MethodName := ⟨RX8, "denied", "(I)Z"⟩
def dkwX8_denied_0 : List UInt8 := [42, 27, 181, 0, 76, 42, 2, 181, 0, 9, 3, 172]
abbrev dktX8_denied_0 : List UInt8 := dkwX8_denied_0 ++ []
theorem dksX8_denied_0 : cX8_denied.data.toList.drop 0 = dktX8_denied_0 := by decide +kernel
theorem dX8_denied_0 : decode cX8_denied 0 = .ok (.aload_n 0, 1) := dk_42 (dk_at dksX8_denied_0 0 rfl rfl)
theorem dX8_denied_1 : decode cX8_denied 1 = .ok (.iload_n 1, 1) := dk_27 (dk_at dksX8_denied_0 1 rfl rfl)
theorem dX8_denied_2 : decode cX8_denied 2 = .ok (.putfield 76, 3) := dk_181 0 76 (dk_at dksX8_denied_0 2 rfl rfl)
theorem dX8_denied_5 : decode cX8_denied 5 = .ok (.aload_n 0, 1) := dk_42 (dk_at dksX8_denied_0 5 rfl rfl)
theorem dX8_denied_6 : decode cX8_denied 6 = .ok (.iconst (-1), 1) := dk_2 (dk_at dksX8_denied_0 6 rfl rfl)
theorem dX8_denied_7 : decode cX8_denied 7 = .ok (.putfield 9, 3) := dk_181 0 9 (dk_at dksX8_denied_0 7 rfl rfl)
theorem dX8_denied_10 : decode cX8_denied 10 = .ok (.iconst 0, 1) := dk_3 (dk_at dksX8_denied_0 10 rfl rfl)
theorem dX8_denied_11 : decode cX8_denied 11 = .ok (.ireturn, 1) := dk_172 (dk_at dksX8_denied_0 11 rfl rfl)
abbrev cX8_granted : ByteArray := prog_14_method_6_code
def yX8_granted : MethodName := ⟨RX8, "granted", "()Z"⟩
def dkwX8_granted_0 : List UInt8 := [42, 3, 181, 0, 76, 42, 2, 181, 0, 9, 4, 172]
abbrev dktX8_granted_0 : List UInt8 := dkwX8_granted_0 ++ []
theorem dksX8_granted_0 : cX8_granted.data.toList.drop 0 = dktX8_granted_0 := by decide +kernel
theorem dX8_granted_0 : decode cX8_granted 0 = .ok (.aload_n 0, 1) := dk_42 (dk_at dksX8_granted_0 0 rfl rfl)
theorem dX8_granted_1 : decode cX8_granted 1 = .ok (.iconst 0, 1) := dk_3 (dk_at dksX8_granted_0 1 rfl rfl)
theorem dX8_granted_2 : decode cX8_granted 2 = .ok (.putfield 76, 3) := dk_181 0 76 (dk_at dksX8_granted_0 2 rfl rfl)
theorem dX8_granted_5 : decode cX8_granted 5 = .ok (.aload_n 0, 1) := dk_42 (dk_at dksX8_granted_0 5 rfl rfl)
theorem dX8_granted_6 : decode cX8_granted 6 = .ok (.iconst (-1), 1) := dk_2 (dk_at dksX8_granted_0 6 rfl rfl)
theorem dX8_granted_7 : decode cX8_granted 7 = .ok (.putfield 9, 3) := dk_181 0 9 (dk_at dksX8_granted_0 7 rfl rfl)
theorem dX8_granted_10 : decode cX8_granted 10 = .ok (.iconst 1, 1) := dk_4 (dk_at dksX8_granted_0 10 rfl rfl)
theorem dX8_granted_11 : decode cX8_granted 11 = .ok (.ireturn, 1) := dk_172 (dk_at dksX8_granted_0 11 rfl rfl)
abbrev cX8_mend : ByteArray := prog_14_method_43_code
def yX8_mend : MethodName := ⟨RX8, "mend", "(IZ)Z"⟩
def dkwX8_mend_2 : List UInt8 := [180, 0, 17, 16, 24, 3, 79, 42, 182, 1, 73, 172]
abbrev dktX8_mend_2 : List UInt8 := dkwX8_mend_2 ++ []
def dkwX8_mend_1 : List UInt8 := [154, 0, 9, 42, 5, 182, 1, 70, 172, 42, 180, 0, 17, 16, 25, 27, 79, 28, 153, 0, 11, 42]
abbrev dktX8_mend_1 : List UInt8 := dkwX8_mend_1 ++ dktX8_mend_2
def dkwX8_mend_0 : List UInt8 := [42, 3, 181, 0, 73, 42, 180, 1, 34, 199, 0, 9, 42, 4, 182, 1, 70, 172, 27, 3, 6, 184, 0, 149]
abbrev dktX8_mend_0 : List UInt8 := dkwX8_mend_0 ++ dktX8_mend_1
theorem dksX8_mend_0 : cX8_mend.data.toList.drop 0 = dktX8_mend_0 := by decide +kernel
theorem dksX8_mend_1 : cX8_mend.data.toList.drop 24 = dktX8_mend_1 := dk_seg dksX8_mend_0 24 rfl rfl
theorem dksX8_mend_2 : cX8_mend.data.toList.drop 46 = dktX8_mend_2 := dk_seg dksX8_mend_1 22 rfl rfl
theorem dX8_mend_0 : decode cX8_mend 0 = .ok (.aload_n 0, 1) := dk_42 (dk_at dksX8_mend_0 0 rfl rfl)
theorem dX8_mend_1 : decode cX8_mend 1 = .ok (.iconst 0, 1) := dk_3 (dk_at dksX8_mend_0 1 rfl rfl)
theorem dX8_mend_2 : decode cX8_mend 2 = .ok (.putfield 73, 3) := dk_181 0 73 (dk_at dksX8_mend_0 2 rfl rfl)
theorem dX8_mend_5 : decode cX8_mend 5 = .ok (.aload_n 0, 1) := dk_42 (dk_at dksX8_mend_0 5 rfl rfl)
theorem dX8_mend_6 : decode cX8_mend 6 = .ok (.getfield 290, 3) := dk_180 1 34 (dk_at dksX8_mend_0 6 rfl rfl)
theorem dX8_mend_9 : decode cX8_mend 9 = .ok (.ifnonnull 9, 3) := dk_199 0 9 (dk_at dksX8_mend_0 9 rfl rfl)
theorem dX8_mend_12 : decode cX8_mend 12 = .ok (.aload_n 0, 1) := dk_42 (dk_at dksX8_mend_0 12 rfl rfl)
theorem dX8_mend_13 : decode cX8_mend 13 = .ok (.iconst 1, 1) := dk_4 (dk_at dksX8_mend_0 13 rfl rfl)
theorem dX8_mend_14 : decode cX8_mend 14 = .ok (.invokevirtual 326, 3) := dk_182 1 70 (dk_at dksX8_mend_0 14 rfl rfl)
theorem dX8_mend_17 : decode cX8_mend 17 = .ok (.ireturn, 1) := dk_172 (dk_at dksX8_mend_0 17 rfl rfl)
theorem dX8_mend_18 : decode cX8_mend 18 = .ok (.iload_n 1, 1) := dk_27 (dk_at dksX8_mend_0 18 rfl rfl)
theorem dX8_mend_19 : decode cX8_mend 19 = .ok (.iconst 0, 1) := dk_3 (dk_at dksX8_mend_0 19 rfl rfl)
theorem dX8_mend_20 : decode cX8_mend 20 = .ok (.iconst 3, 1) := dk_6 (dk_at dksX8_mend_0 20 rfl rfl)
theorem dX8_mend_21 : decode cX8_mend 21 = .ok (.invokestatic 149, 3) := dk_184 0 149 (dk_at dksX8_mend_0 21 rfl rfl)
theorem dX8_mend_24 : decode cX8_mend 24 = .ok (.ifCond .ne 9, 3) := dk_154 0 9 (dk_at dksX8_mend_1 0 rfl rfl)
theorem dX8_mend_27 : decode cX8_mend 27 = .ok (.aload_n 0, 1) := dk_42 (dk_at dksX8_mend_1 3 rfl rfl)
theorem dX8_mend_28 : decode cX8_mend 28 = .ok (.iconst 2, 1) := dk_5 (dk_at dksX8_mend_1 4 rfl rfl)
theorem dX8_mend_29 : decode cX8_mend 29 = .ok (.invokevirtual 326, 3) := dk_182 1 70 (dk_at dksX8_mend_1 5 rfl rfl)
theorem dX8_mend_32 : decode cX8_mend 32 = .ok (.ireturn, 1) := dk_172 (dk_at dksX8_mend_1 8 rfl rfl)
theorem dX8_mend_33 : decode cX8_mend 33 = .ok (.aload_n 0, 1) := dk_42 (dk_at dksX8_mend_1 9 rfl rfl)
theorem dX8_mend_34 : decode cX8_mend 34 = .ok (.getfield 17, 3) := dk_180 0 17 (dk_at dksX8_mend_1 10 rfl rfl)
theorem dX8_mend_37 : decode cX8_mend 37 = .ok (.bipush 25, 2) := dk_16 25 (dk_at dksX8_mend_1 13 rfl rfl)
theorem dX8_mend_39 : decode cX8_mend 39 = .ok (.iload_n 1, 1) := dk_27 (dk_at dksX8_mend_1 15 rfl rfl)
theorem dX8_mend_40 : decode cX8_mend 40 = .ok (.iastore, 1) := dk_79 (dk_at dksX8_mend_1 16 rfl rfl)
theorem dX8_mend_41 : decode cX8_mend 41 = .ok (.iload_n 2, 1) := dk_28 (dk_at dksX8_mend_1 17 rfl rfl)
theorem dX8_mend_42 : decode cX8_mend 42 = .ok (.ifCond .eq 11, 3) := dk_153 0 11 (dk_at dksX8_mend_1 18 rfl rfl)
theorem dX8_mend_45 : decode cX8_mend 45 = .ok (.aload_n 0, 1) := dk_42 (dk_at dksX8_mend_1 21 rfl rfl)
theorem dX8_mend_46 : decode cX8_mend 46 = .ok (.getfield 17, 3) := dk_180 0 17 (dk_at dksX8_mend_2 0 rfl rfl)
theorem dX8_mend_49 : decode cX8_mend 49 = .ok (.bipush 24, 2) := dk_16 24 (dk_at dksX8_mend_2 3 rfl rfl)
theorem dX8_mend_51 : decode cX8_mend 51 = .ok (.iconst 0, 1) := dk_3 (dk_at dksX8_mend_2 5 rfl rfl)
theorem dX8_mend_52 : decode cX8_mend 52 = .ok (.iastore, 1) := dk_79 (dk_at dksX8_mend_2 6 rfl rfl)
theorem dX8_mend_53 : decode cX8_mend 53 = .ok (.aload_n 0, 1) := dk_42 (dk_at dksX8_mend_2 7 rfl rfl)
theorem dX8_mend_54 : decode cX8_mend 54 = .ok (.invokevirtual 329, 3) := dk_182 1 73 (dk_at dksX8_mend_2 8 rfl rfl)
theorem dX8_mend_57 : decode cX8_mend 57 = .ok (.ireturn, 1) := dk_172 (dk_at dksX8_mend_2 11 rfl rfl)
abbrev cX8_go : ByteArray := prog_14_method_44_code
def yX8_go : MethodName := ⟨RX8, "go", "(I)I"⟩
def dkwX8_go_5 : List UInt8 := [132, 3, 1, 167, 255, 196, 42, 28, 182, 1, 46, 172]
abbrev dktX8_go_5 : List UInt8 := dkwX8_go_5 ++ []
def dkwX8_go_4 : List UInt8 := [180, 1, 43, 42, 180, 0, 17, 16, 27, 46, 4, 100, 79, 42, 89, 180, 1, 43, 4, 96, 181, 1, 43]
abbrev dktX8_go_4 : List UInt8 := dkwX8_go_4 ++ dktX8_go_5
def dkwX8_go_3 : List UInt8 := [182, 1, 76, 42, 180, 0, 17, 16, 26, 46, 154, 0, 9, 132, 2, 1, 167, 0, 31, 42, 180, 0, 24, 42]
abbrev dktX8_go_3 : List UInt8 := dkwX8_go_3 ++ dktX8_go_4
def dkwX8_go_2 : List UInt8 := [164, 0, 9, 42, 6, 182, 1, 27, 172, 3, 61, 3, 62, 29, 27, 162, 0, 61, 42, 42, 180, 0, 17]
abbrev dktX8_go_2 : List UInt8 := dkwX8_go_2 ++ dktX8_go_3
def dkwX8_go_1 : List UInt8 := [184, 0, 149, 154, 0, 9, 42, 5, 182, 1, 27, 172, 42, 180, 0, 17, 16, 27, 46, 27, 96, 17, 0, 240]
abbrev dktX8_go_1 : List UInt8 := dkwX8_go_1 ++ dktX8_go_2
def dkwX8_go_0 : List UInt8 := [42, 3, 181, 0, 73, 42, 180, 1, 34, 199, 0, 9, 42, 4, 182, 1, 27, 172, 27, 4, 16, 24]
abbrev dktX8_go_0 : List UInt8 := dkwX8_go_0 ++ dktX8_go_1
theorem dksX8_go_0 : cX8_go.data.toList.drop 0 = dktX8_go_0 := by decide +kernel
theorem dksX8_go_1 : cX8_go.data.toList.drop 22 = dktX8_go_1 := dk_seg dksX8_go_0 22 rfl rfl
theorem dksX8_go_2 : cX8_go.data.toList.drop 46 = dktX8_go_2 := dk_seg dksX8_go_1 24 rfl rfl
theorem dksX8_go_3 : cX8_go.data.toList.drop 69 = dktX8_go_3 := dk_seg dksX8_go_2 23 rfl rfl
theorem dksX8_go_4 : cX8_go.data.toList.drop 93 = dktX8_go_4 := dk_seg dksX8_go_3 24 rfl rfl
theorem dksX8_go_5 : cX8_go.data.toList.drop 116 = dktX8_go_5 := dk_seg dksX8_go_4 23 rfl rfl
theorem dX8_go_0 : decode cX8_go 0 = .ok (.aload_n 0, 1) := dk_42 (dk_at dksX8_go_0 0 rfl rfl)
theorem dX8_go_1 : decode cX8_go 1 = .ok (.iconst 0, 1) := dk_3 (dk_at dksX8_go_0 1 rfl rfl)
theorem dX8_go_2 : decode cX8_go 2 = .ok (.putfield 73, 3) := dk_181 0 73 (dk_at dksX8_go_0 2 rfl rfl)
theorem dX8_go_5 : decode cX8_go 5 = .ok (.aload_n 0, 1) := dk_42 (dk_at dksX8_go_0 5 rfl rfl)
theorem dX8_go_6 : decode cX8_go 6 = .ok (.getfield 290, 3) := dk_180 1 34 (dk_at dksX8_go_0 6 rfl rfl)
theorem dX8_go_9 : decode cX8_go 9 = .ok (.ifnonnull 9, 3) := dk_199 0 9 (dk_at dksX8_go_0 9 rfl rfl)
theorem dX8_go_12 : decode cX8_go 12 = .ok (.aload_n 0, 1) := dk_42 (dk_at dksX8_go_0 12 rfl rfl)
theorem dX8_go_13 : decode cX8_go 13 = .ok (.iconst 1, 1) := dk_4 (dk_at dksX8_go_0 13 rfl rfl)
theorem dX8_go_14 : decode cX8_go 14 = .ok (.invokevirtual 283, 3) := dk_182 1 27 (dk_at dksX8_go_0 14 rfl rfl)
theorem dX8_go_17 : decode cX8_go 17 = .ok (.ireturn, 1) := dk_172 (dk_at dksX8_go_0 17 rfl rfl)
theorem dX8_go_18 : decode cX8_go 18 = .ok (.iload_n 1, 1) := dk_27 (dk_at dksX8_go_0 18 rfl rfl)
theorem dX8_go_19 : decode cX8_go 19 = .ok (.iconst 1, 1) := dk_4 (dk_at dksX8_go_0 19 rfl rfl)
theorem dX8_go_20 : decode cX8_go 20 = .ok (.bipush 24, 2) := dk_16 24 (dk_at dksX8_go_0 20 rfl rfl)
theorem dX8_go_22 : decode cX8_go 22 = .ok (.invokestatic 149, 3) := dk_184 0 149 (dk_at dksX8_go_1 0 rfl rfl)
theorem dX8_go_25 : decode cX8_go 25 = .ok (.ifCond .ne 9, 3) := dk_154 0 9 (dk_at dksX8_go_1 3 rfl rfl)
theorem dX8_go_28 : decode cX8_go 28 = .ok (.aload_n 0, 1) := dk_42 (dk_at dksX8_go_1 6 rfl rfl)
theorem dX8_go_29 : decode cX8_go 29 = .ok (.iconst 2, 1) := dk_5 (dk_at dksX8_go_1 7 rfl rfl)
theorem dX8_go_30 : decode cX8_go 30 = .ok (.invokevirtual 283, 3) := dk_182 1 27 (dk_at dksX8_go_1 8 rfl rfl)
theorem dX8_go_33 : decode cX8_go 33 = .ok (.ireturn, 1) := dk_172 (dk_at dksX8_go_1 11 rfl rfl)
theorem dX8_go_34 : decode cX8_go 34 = .ok (.aload_n 0, 1) := dk_42 (dk_at dksX8_go_1 12 rfl rfl)
theorem dX8_go_35 : decode cX8_go 35 = .ok (.getfield 17, 3) := dk_180 0 17 (dk_at dksX8_go_1 13 rfl rfl)
theorem dX8_go_38 : decode cX8_go 38 = .ok (.bipush 27, 2) := dk_16 27 (dk_at dksX8_go_1 16 rfl rfl)
theorem dX8_go_40 : decode cX8_go 40 = .ok (.iaload, 1) := dk_46 (dk_at dksX8_go_1 18 rfl rfl)
theorem dX8_go_41 : decode cX8_go 41 = .ok (.iload_n 1, 1) := dk_27 (dk_at dksX8_go_1 19 rfl rfl)
theorem dX8_go_42 : decode cX8_go 42 = .ok (.iadd, 1) := dk_96 (dk_at dksX8_go_1 20 rfl rfl)
theorem dX8_go_43 : decode cX8_go 43 = .ok (.sipush 240, 3) := dk_17 0 240 (dk_at dksX8_go_1 21 rfl rfl)
theorem dX8_go_46 : decode cX8_go 46 = .ok (.if_icmp .le 9, 3) := dk_164 0 9 (dk_at dksX8_go_2 0 rfl rfl)
theorem dX8_go_49 : decode cX8_go 49 = .ok (.aload_n 0, 1) := dk_42 (dk_at dksX8_go_2 3 rfl rfl)
theorem dX8_go_50 : decode cX8_go 50 = .ok (.iconst 3, 1) := dk_6 (dk_at dksX8_go_2 4 rfl rfl)
theorem dX8_go_51 : decode cX8_go 51 = .ok (.invokevirtual 283, 3) := dk_182 1 27 (dk_at dksX8_go_2 5 rfl rfl)
theorem dX8_go_54 : decode cX8_go 54 = .ok (.ireturn, 1) := dk_172 (dk_at dksX8_go_2 8 rfl rfl)
theorem dX8_go_55 : decode cX8_go 55 = .ok (.iconst 0, 1) := dk_3 (dk_at dksX8_go_2 9 rfl rfl)
theorem dX8_go_56 : decode cX8_go 56 = .ok (.istore_n 2, 1) := dk_61 (dk_at dksX8_go_2 10 rfl rfl)
theorem dX8_go_57 : decode cX8_go 57 = .ok (.iconst 0, 1) := dk_3 (dk_at dksX8_go_2 11 rfl rfl)
theorem dX8_go_58 : decode cX8_go 58 = .ok (.istore_n 3, 1) := dk_62 (dk_at dksX8_go_2 12 rfl rfl)
theorem dX8_go_59 : decode cX8_go 59 = .ok (.iload_n 3, 1) := dk_29 (dk_at dksX8_go_2 13 rfl rfl)
theorem dX8_go_60 : decode cX8_go 60 = .ok (.iload_n 1, 1) := dk_27 (dk_at dksX8_go_2 14 rfl rfl)
theorem dX8_go_61 : decode cX8_go 61 = .ok (.if_icmp .ge 61, 3) := dk_162 0 61 (dk_at dksX8_go_2 15 rfl rfl)
theorem dX8_go_64 : decode cX8_go 64 = .ok (.aload_n 0, 1) := dk_42 (dk_at dksX8_go_2 18 rfl rfl)
theorem dX8_go_65 : decode cX8_go 65 = .ok (.aload_n 0, 1) := dk_42 (dk_at dksX8_go_2 19 rfl rfl)
theorem dX8_go_66 : decode cX8_go 66 = .ok (.getfield 17, 3) := dk_180 0 17 (dk_at dksX8_go_2 20 rfl rfl)
theorem dX8_go_69 : decode cX8_go 69 = .ok (.invokevirtual 332, 3) := dk_182 1 76 (dk_at dksX8_go_3 0 rfl rfl)
theorem dX8_go_72 : decode cX8_go 72 = .ok (.aload_n 0, 1) := dk_42 (dk_at dksX8_go_3 3 rfl rfl)
theorem dX8_go_73 : decode cX8_go 73 = .ok (.getfield 17, 3) := dk_180 0 17 (dk_at dksX8_go_3 4 rfl rfl)
theorem dX8_go_76 : decode cX8_go 76 = .ok (.bipush 26, 2) := dk_16 26 (dk_at dksX8_go_3 7 rfl rfl)
theorem dX8_go_78 : decode cX8_go 78 = .ok (.iaload, 1) := dk_46 (dk_at dksX8_go_3 9 rfl rfl)
theorem dX8_go_79 : decode cX8_go 79 = .ok (.ifCond .ne 9, 3) := dk_154 0 9 (dk_at dksX8_go_3 10 rfl rfl)
theorem dX8_go_82 : decode cX8_go 82 = .ok (.iinc 2 1, 3) := dk_132 2 1 (dk_at dksX8_go_3 13 rfl rfl)
theorem dX8_go_85 : decode cX8_go 85 = .ok (.goto 31, 3) := dk_167 0 31 (dk_at dksX8_go_3 16 rfl rfl)
theorem dX8_go_88 : decode cX8_go 88 = .ok (.aload_n 0, 1) := dk_42 (dk_at dksX8_go_3 19 rfl rfl)
theorem dX8_go_89 : decode cX8_go 89 = .ok (.getfield 24, 3) := dk_180 0 24 (dk_at dksX8_go_3 20 rfl rfl)
theorem dX8_go_92 : decode cX8_go 92 = .ok (.aload_n 0, 1) := dk_42 (dk_at dksX8_go_3 23 rfl rfl)
theorem dX8_go_93 : decode cX8_go 93 = .ok (.getfield 299, 3) := dk_180 1 43 (dk_at dksX8_go_4 0 rfl rfl)
theorem dX8_go_96 : decode cX8_go 96 = .ok (.aload_n 0, 1) := dk_42 (dk_at dksX8_go_4 3 rfl rfl)
theorem dX8_go_97 : decode cX8_go 97 = .ok (.getfield 17, 3) := dk_180 0 17 (dk_at dksX8_go_4 4 rfl rfl)
theorem dX8_go_100 : decode cX8_go 100 = .ok (.bipush 27, 2) := dk_16 27 (dk_at dksX8_go_4 7 rfl rfl)
theorem dX8_go_102 : decode cX8_go 102 = .ok (.iaload, 1) := dk_46 (dk_at dksX8_go_4 9 rfl rfl)
theorem dX8_go_103 : decode cX8_go 103 = .ok (.iconst 1, 1) := dk_4 (dk_at dksX8_go_4 10 rfl rfl)
theorem dX8_go_104 : decode cX8_go 104 = .ok (.isub, 1) := dk_100 (dk_at dksX8_go_4 11 rfl rfl)
theorem dX8_go_105 : decode cX8_go 105 = .ok (.iastore, 1) := dk_79 (dk_at dksX8_go_4 12 rfl rfl)
theorem dX8_go_106 : decode cX8_go 106 = .ok (.aload_n 0, 1) := dk_42 (dk_at dksX8_go_4 13 rfl rfl)
theorem dX8_go_107 : decode cX8_go 107 = .ok (.dup, 1) := dk_89 (dk_at dksX8_go_4 14 rfl rfl)
theorem dX8_go_108 : decode cX8_go 108 = .ok (.getfield 299, 3) := dk_180 1 43 (dk_at dksX8_go_4 15 rfl rfl)
theorem dX8_go_111 : decode cX8_go 111 = .ok (.iconst 1, 1) := dk_4 (dk_at dksX8_go_4 18 rfl rfl)
theorem dX8_go_112 : decode cX8_go 112 = .ok (.iadd, 1) := dk_96 (dk_at dksX8_go_4 19 rfl rfl)
theorem dX8_go_113 : decode cX8_go 113 = .ok (.putfield 299, 3) := dk_181 1 43 (dk_at dksX8_go_4 20 rfl rfl)
theorem dX8_go_116 : decode cX8_go 116 = .ok (.iinc 3 1, 3) := dk_132 3 1 (dk_at dksX8_go_5 0 rfl rfl)
theorem dX8_go_119 : decode cX8_go 119 = .ok (.goto (-60), 3) := dk_167 255 196 (dk_at dksX8_go_5 3 rfl rfl)
theorem dX8_go_122 : decode cX8_go 122 = .ok (.aload_n 0, 1) := dk_42 (dk_at dksX8_go_5 6 rfl rfl)
theorem dX8_go_123 : decode cX8_go 123 = .ok (.iload_n 2, 1) := dk_28 (dk_at dksX8_go_5 7 rfl rfl)
theorem dX8_go_124 : decode cX8_go 124 = .ok (.invokevirtual 302, 3) := dk_182 1 46 (dk_at dksX8_go_5 8 rfl rfl)
theorem dX8_go_127 : decode cX8_go 127 = .ok (.ireturn, 1) := dk_172 (dk_at dksX8_go_5 11 rfl rfl)
abbrev cX8_goes : ByteArray := prog_14_method_36_code
def yX8_goes : MethodName := ⟨RX8, "goes", "([I)V"⟩
def dkwX8_goes_15 : List UInt8 := [16, 24, 92, 46, 4, 96, 79, 43, 16, 27, 92, 46, 4, 96, 79, 177]
abbrev dktX8_goes_15 : List UInt8 := dkwX8_goes_15 ++ []
def dkwX8_goes_14 : List UInt8 := [180, 1, 34, 180, 0, 254, 43, 16, 27, 46, 42, 180, 1, 34, 180, 0, 188, 112, 46, 104, 96, 79, 43]
abbrev dktX8_goes_14 : List UInt8 := dkwX8_goes_14 ++ dktX8_goes_15
def dkwX8_goes_13 : List UInt8 := [16, 31, 21, 4, 156, 0, 7, 3, 167, 0, 5, 21, 4, 79, 43, 16, 32, 92, 46, 43, 16, 30, 46, 42]
abbrev dktX8_goes_13 : List UInt8 := dkwX8_goes_13 ++ dktX8_goes_14
def dkwX8_goes_12 : List UInt8 := [180, 1, 34, 180, 0, 233, 43, 16, 28, 46, 104, 42, 180, 1, 34, 180, 0, 176, 108, 100, 54, 4, 43]
abbrev dktX8_goes_12 : List UInt8 := dkwX8_goes_12 ++ dktX8_goes_13
def dkwX8_goes_11 : List UInt8 := [16, 23, 92, 46, 42, 180, 1, 34, 180, 0, 252, 29, 100, 96, 79, 42, 180, 1, 34, 180, 0, 233, 42]
abbrev dktX8_goes_11 : List UInt8 := dkwX8_goes_11 ++ dktX8_goes_12
def dkwX8_goes_10 : List UInt8 := [180, 1, 34, 180, 0, 252, 62, 43, 16, 20, 92, 46, 29, 100, 79, 43, 16, 22, 92, 46, 29, 96, 79, 43]
abbrev dktX8_goes_10 : List UInt8 := dkwX8_goes_10 ++ dktX8_goes_11
def dkwX8_goes_9 : List UInt8 := [79, 43, 16, 20, 46, 42, 180, 1, 34, 180, 0, 252, 162, 0, 10, 43, 16, 20, 46, 167, 0, 10, 42]
abbrev dktX8_goes_9 : List UInt8 := dkwX8_goes_9 ++ dktX8_goes_10
def dkwX8_goes_8 : List UInt8 := [180, 0, 186, 100, 167, 0, 4, 3, 61, 43, 16, 21, 92, 46, 28, 96, 79, 43, 16, 20, 92, 46, 28, 100]
abbrev dktX8_goes_8 : List UInt8 := dkwX8_goes_8 ++ dktX8_goes_9
def dkwX8_goes_7 : List UInt8 := [79, 43, 16, 20, 46, 42, 180, 1, 34, 180, 0, 186, 164, 0, 18, 43, 16, 20, 46, 42, 180, 1, 34]
abbrev dktX8_goes_7 : List UInt8 := dkwX8_goes_7 ++ dktX8_goes_8
def dkwX8_goes_6 : List UInt8 := [182, 1, 53, 167, 0, 8, 42, 43, 182, 1, 57, 43, 16, 20, 92, 46, 42, 43, 16, 10, 182, 1, 49, 96]
abbrev dktX8_goes_6 : List UInt8 := dkwX8_goes_6 ++ dktX8_goes_7
def dkwX8_goes_5 : List UInt8 := [167, 0, 4, 3, 79, 43, 16, 29, 3, 79, 43, 16, 30, 3, 79, 43, 16, 26, 46, 154, 0, 11, 42, 43]
abbrev dktX8_goes_5 : List UInt8 := dkwX8_goes_5 ++ dktX8_goes_6
def dkwX8_goes_4 : List UInt8 := [3, 182, 1, 49, 79, 43, 16, 26, 43, 16, 28, 46, 42, 180, 1, 34, 180, 0, 176, 164, 0, 7, 4]
abbrev dktX8_goes_4 : List UInt8 := dkwX8_goes_4 ++ dktX8_goes_5
def dkwX8_goes_3 : List UInt8 := [43, 8, 28, 96, 3, 79, 43, 16, 10, 28, 96, 3, 79, 132, 2, 1, 167, 255, 172, 43, 16, 28, 42, 43]
abbrev dktX8_goes_3 : List UInt8 := dkwX8_goes_3 ++ dktX8_goes_4
def dkwX8_goes_2 : List UInt8 := [62, 43, 16, 33, 92, 46, 29, 96, 79, 43, 3, 28, 96, 92, 46, 29, 43, 8, 28, 96, 46, 96, 96, 79]
abbrev dktX8_goes_2 : List UInt8 := dkwX8_goes_2 ++ dktX8_goes_3
def dkwX8_goes_1 : List UInt8 := [167, 0, 24, 43, 16, 34, 46, 42, 180, 1, 34, 180, 1, 22, 8, 43, 16, 36, 46, 104, 28, 96, 46, 104]
abbrev dktX8_goes_1 : List UInt8 := dkwX8_goes_1 ++ dktX8_goes_2
def dkwX8_goes_0 : List UInt8 := [3, 61, 28, 42, 180, 1, 34, 180, 0, 191, 162, 0, 79, 43, 16, 26, 46, 4, 160, 0, 7, 3]
abbrev dktX8_goes_0 : List UInt8 := dkwX8_goes_0 ++ dktX8_goes_1
theorem dksX8_goes_0 : cX8_goes.data.toList.drop 0 = dktX8_goes_0 := by decide +kernel
theorem dksX8_goes_1 : cX8_goes.data.toList.drop 22 = dktX8_goes_1 := dk_seg dksX8_goes_0 22 rfl rfl
theorem dksX8_goes_2 : cX8_goes.data.toList.drop 46 = dktX8_goes_2 := dk_seg dksX8_goes_1 24 rfl rfl
theorem dksX8_goes_3 : cX8_goes.data.toList.drop 70 = dktX8_goes_3 := dk_seg dksX8_goes_2 24 rfl rfl
theorem dksX8_goes_4 : cX8_goes.data.toList.drop 94 = dktX8_goes_4 := dk_seg dksX8_goes_3 24 rfl rfl
theorem dksX8_goes_5 : cX8_goes.data.toList.drop 117 = dktX8_goes_5 := dk_seg dksX8_goes_4 23 rfl rfl
theorem dksX8_goes_6 : cX8_goes.data.toList.drop 141 = dktX8_goes_6 := dk_seg dksX8_goes_5 24 rfl rfl
theorem dksX8_goes_7 : cX8_goes.data.toList.drop 165 = dktX8_goes_7 := dk_seg dksX8_goes_6 24 rfl rfl
theorem dksX8_goes_8 : cX8_goes.data.toList.drop 188 = dktX8_goes_8 := dk_seg dksX8_goes_7 23 rfl rfl
theorem dksX8_goes_9 : cX8_goes.data.toList.drop 212 = dktX8_goes_9 := dk_seg dksX8_goes_8 24 rfl rfl
theorem dksX8_goes_10 : cX8_goes.data.toList.drop 235 = dktX8_goes_10 := dk_seg dksX8_goes_9 23 rfl rfl
theorem dksX8_goes_11 : cX8_goes.data.toList.drop 259 = dktX8_goes_11 := dk_seg dksX8_goes_10 24 rfl rfl
theorem dksX8_goes_12 : cX8_goes.data.toList.drop 282 = dktX8_goes_12 := dk_seg dksX8_goes_11 23 rfl rfl
theorem dksX8_goes_13 : cX8_goes.data.toList.drop 305 = dktX8_goes_13 := dk_seg dksX8_goes_12 23 rfl rfl
theorem dksX8_goes_14 : cX8_goes.data.toList.drop 329 = dktX8_goes_14 := dk_seg dksX8_goes_13 24 rfl rfl
theorem dksX8_goes_15 : cX8_goes.data.toList.drop 352 = dktX8_goes_15 := dk_seg dksX8_goes_14 23 rfl rfl
theorem dX8_goes_0 : decode cX8_goes 0 = .ok (.iconst 0, 1) := dk_3 (dk_at dksX8_goes_0 0 rfl rfl)
theorem dX8_goes_1 : decode cX8_goes 1 = .ok (.istore_n 2, 1) := dk_61 (dk_at dksX8_goes_0 1 rfl rfl)
theorem dX8_goes_2 : decode cX8_goes 2 = .ok (.iload_n 2, 1) := dk_28 (dk_at dksX8_goes_0 2 rfl rfl)
theorem dX8_goes_3 : decode cX8_goes 3 = .ok (.aload_n 0, 1) := dk_42 (dk_at dksX8_goes_0 3 rfl rfl)
theorem dX8_goes_4 : decode cX8_goes 4 = .ok (.getfield 290, 3) := dk_180 1 34 (dk_at dksX8_goes_0 4 rfl rfl)
theorem dX8_goes_7 : decode cX8_goes 7 = .ok (.getfield 191, 3) := dk_180 0 191 (dk_at dksX8_goes_0 7 rfl rfl)
theorem dX8_goes_10 : decode cX8_goes 10 = .ok (.if_icmp .ge 79, 3) := dk_162 0 79 (dk_at dksX8_goes_0 10 rfl rfl)
theorem dX8_goes_13 : decode cX8_goes 13 = .ok (.aload_n 1, 1) := dk_43 (dk_at dksX8_goes_0 13 rfl rfl)
theorem dX8_goes_14 : decode cX8_goes 14 = .ok (.bipush 26, 2) := dk_16 26 (dk_at dksX8_goes_0 14 rfl rfl)
theorem dX8_goes_16 : decode cX8_goes 16 = .ok (.iaload, 1) := dk_46 (dk_at dksX8_goes_0 16 rfl rfl)
theorem dX8_goes_17 : decode cX8_goes 17 = .ok (.iconst 1, 1) := dk_4 (dk_at dksX8_goes_0 17 rfl rfl)
theorem dX8_goes_18 : decode cX8_goes 18 = .ok (.if_icmp .ne 7, 3) := dk_160 0 7 (dk_at dksX8_goes_0 18 rfl rfl)
theorem dX8_goes_21 : decode cX8_goes 21 = .ok (.iconst 0, 1) := dk_3 (dk_at dksX8_goes_0 21 rfl rfl)
theorem dX8_goes_22 : decode cX8_goes 22 = .ok (.goto 24, 3) := dk_167 0 24 (dk_at dksX8_goes_1 0 rfl rfl)
theorem dX8_goes_25 : decode cX8_goes 25 = .ok (.aload_n 1, 1) := dk_43 (dk_at dksX8_goes_1 3 rfl rfl)
theorem dX8_goes_26 : decode cX8_goes 26 = .ok (.bipush 34, 2) := dk_16 34 (dk_at dksX8_goes_1 4 rfl rfl)
theorem dX8_goes_28 : decode cX8_goes 28 = .ok (.iaload, 1) := dk_46 (dk_at dksX8_goes_1 6 rfl rfl)
theorem dX8_goes_29 : decode cX8_goes 29 = .ok (.aload_n 0, 1) := dk_42 (dk_at dksX8_goes_1 7 rfl rfl)
theorem dX8_goes_30 : decode cX8_goes 30 = .ok (.getfield 290, 3) := dk_180 1 34 (dk_at dksX8_goes_1 8 rfl rfl)
theorem dX8_goes_33 : decode cX8_goes 33 = .ok (.getfield 278, 3) := dk_180 1 22 (dk_at dksX8_goes_1 11 rfl rfl)
theorem dX8_goes_36 : decode cX8_goes 36 = .ok (.iconst 5, 1) := dk_8 (dk_at dksX8_goes_1 14 rfl rfl)
theorem dX8_goes_37 : decode cX8_goes 37 = .ok (.aload_n 1, 1) := dk_43 (dk_at dksX8_goes_1 15 rfl rfl)
theorem dX8_goes_38 : decode cX8_goes 38 = .ok (.bipush 36, 2) := dk_16 36 (dk_at dksX8_goes_1 16 rfl rfl)
theorem dX8_goes_40 : decode cX8_goes 40 = .ok (.iaload, 1) := dk_46 (dk_at dksX8_goes_1 18 rfl rfl)
theorem dX8_goes_41 : decode cX8_goes 41 = .ok (.imul, 1) := dk_104 (dk_at dksX8_goes_1 19 rfl rfl)
theorem dX8_goes_42 : decode cX8_goes 42 = .ok (.iload_n 2, 1) := dk_28 (dk_at dksX8_goes_1 20 rfl rfl)
theorem dX8_goes_43 : decode cX8_goes 43 = .ok (.iadd, 1) := dk_96 (dk_at dksX8_goes_1 21 rfl rfl)
theorem dX8_goes_44 : decode cX8_goes 44 = .ok (.iaload, 1) := dk_46 (dk_at dksX8_goes_1 22 rfl rfl)
theorem dX8_goes_45 : decode cX8_goes 45 = .ok (.imul, 1) := dk_104 (dk_at dksX8_goes_1 23 rfl rfl)
theorem dX8_goes_46 : decode cX8_goes 46 = .ok (.istore_n 3, 1) := dk_62 (dk_at dksX8_goes_2 0 rfl rfl)
theorem dX8_goes_47 : decode cX8_goes 47 = .ok (.aload_n 1, 1) := dk_43 (dk_at dksX8_goes_2 1 rfl rfl)
theorem dX8_goes_48 : decode cX8_goes 48 = .ok (.bipush 33, 2) := dk_16 33 (dk_at dksX8_goes_2 2 rfl rfl)
theorem dX8_goes_50 : decode cX8_goes 50 = .ok (.dup2, 1) := dk_92 (dk_at dksX8_goes_2 4 rfl rfl)
theorem dX8_goes_51 : decode cX8_goes 51 = .ok (.iaload, 1) := dk_46 (dk_at dksX8_goes_2 5 rfl rfl)
theorem dX8_goes_52 : decode cX8_goes 52 = .ok (.iload_n 3, 1) := dk_29 (dk_at dksX8_goes_2 6 rfl rfl)
theorem dX8_goes_53 : decode cX8_goes 53 = .ok (.iadd, 1) := dk_96 (dk_at dksX8_goes_2 7 rfl rfl)
theorem dX8_goes_54 : decode cX8_goes 54 = .ok (.iastore, 1) := dk_79 (dk_at dksX8_goes_2 8 rfl rfl)
theorem dX8_goes_55 : decode cX8_goes 55 = .ok (.aload_n 1, 1) := dk_43 (dk_at dksX8_goes_2 9 rfl rfl)
theorem dX8_goes_56 : decode cX8_goes 56 = .ok (.iconst 0, 1) := dk_3 (dk_at dksX8_goes_2 10 rfl rfl)
theorem dX8_goes_57 : decode cX8_goes 57 = .ok (.iload_n 2, 1) := dk_28 (dk_at dksX8_goes_2 11 rfl rfl)
theorem dX8_goes_58 : decode cX8_goes 58 = .ok (.iadd, 1) := dk_96 (dk_at dksX8_goes_2 12 rfl rfl)
theorem dX8_goes_59 : decode cX8_goes 59 = .ok (.dup2, 1) := dk_92 (dk_at dksX8_goes_2 13 rfl rfl)
theorem dX8_goes_60 : decode cX8_goes 60 = .ok (.iaload, 1) := dk_46 (dk_at dksX8_goes_2 14 rfl rfl)
theorem dX8_goes_61 : decode cX8_goes 61 = .ok (.iload_n 3, 1) := dk_29 (dk_at dksX8_goes_2 15 rfl rfl)
theorem dX8_goes_62 : decode cX8_goes 62 = .ok (.aload_n 1, 1) := dk_43 (dk_at dksX8_goes_2 16 rfl rfl)
theorem dX8_goes_63 : decode cX8_goes 63 = .ok (.iconst 5, 1) := dk_8 (dk_at dksX8_goes_2 17 rfl rfl)
theorem dX8_goes_64 : decode cX8_goes 64 = .ok (.iload_n 2, 1) := dk_28 (dk_at dksX8_goes_2 18 rfl rfl)
theorem dX8_goes_65 : decode cX8_goes 65 = .ok (.iadd, 1) := dk_96 (dk_at dksX8_goes_2 19 rfl rfl)
theorem dX8_goes_66 : decode cX8_goes 66 = .ok (.iaload, 1) := dk_46 (dk_at dksX8_goes_2 20 rfl rfl)
theorem dX8_goes_67 : decode cX8_goes 67 = .ok (.iadd, 1) := dk_96 (dk_at dksX8_goes_2 21 rfl rfl)
theorem dX8_goes_68 : decode cX8_goes 68 = .ok (.iadd, 1) := dk_96 (dk_at dksX8_goes_2 22 rfl rfl)
theorem dX8_goes_69 : decode cX8_goes 69 = .ok (.iastore, 1) := dk_79 (dk_at dksX8_goes_2 23 rfl rfl)
theorem dX8_goes_70 : decode cX8_goes 70 = .ok (.aload_n 1, 1) := dk_43 (dk_at dksX8_goes_3 0 rfl rfl)
theorem dX8_goes_71 : decode cX8_goes 71 = .ok (.iconst 5, 1) := dk_8 (dk_at dksX8_goes_3 1 rfl rfl)
theorem dX8_goes_72 : decode cX8_goes 72 = .ok (.iload_n 2, 1) := dk_28 (dk_at dksX8_goes_3 2 rfl rfl)
theorem dX8_goes_73 : decode cX8_goes 73 = .ok (.iadd, 1) := dk_96 (dk_at dksX8_goes_3 3 rfl rfl)
theorem dX8_goes_74 : decode cX8_goes 74 = .ok (.iconst 0, 1) := dk_3 (dk_at dksX8_goes_3 4 rfl rfl)
theorem dX8_goes_75 : decode cX8_goes 75 = .ok (.iastore, 1) := dk_79 (dk_at dksX8_goes_3 5 rfl rfl)
theorem dX8_goes_76 : decode cX8_goes 76 = .ok (.aload_n 1, 1) := dk_43 (dk_at dksX8_goes_3 6 rfl rfl)
theorem dX8_goes_77 : decode cX8_goes 77 = .ok (.bipush 10, 2) := dk_16 10 (dk_at dksX8_goes_3 7 rfl rfl)
theorem dX8_goes_79 : decode cX8_goes 79 = .ok (.iload_n 2, 1) := dk_28 (dk_at dksX8_goes_3 9 rfl rfl)
theorem dX8_goes_80 : decode cX8_goes 80 = .ok (.iadd, 1) := dk_96 (dk_at dksX8_goes_3 10 rfl rfl)
theorem dX8_goes_81 : decode cX8_goes 81 = .ok (.iconst 0, 1) := dk_3 (dk_at dksX8_goes_3 11 rfl rfl)
theorem dX8_goes_82 : decode cX8_goes 82 = .ok (.iastore, 1) := dk_79 (dk_at dksX8_goes_3 12 rfl rfl)
theorem dX8_goes_83 : decode cX8_goes 83 = .ok (.iinc 2 1, 3) := dk_132 2 1 (dk_at dksX8_goes_3 13 rfl rfl)
theorem dX8_goes_86 : decode cX8_goes 86 = .ok (.goto (-84), 3) := dk_167 255 172 (dk_at dksX8_goes_3 16 rfl rfl)
theorem dX8_goes_89 : decode cX8_goes 89 = .ok (.aload_n 1, 1) := dk_43 (dk_at dksX8_goes_3 19 rfl rfl)
theorem dX8_goes_90 : decode cX8_goes 90 = .ok (.bipush 28, 2) := dk_16 28 (dk_at dksX8_goes_3 20 rfl rfl)
theorem dX8_goes_92 : decode cX8_goes 92 = .ok (.aload_n 0, 1) := dk_42 (dk_at dksX8_goes_3 22 rfl rfl)
theorem dX8_goes_93 : decode cX8_goes 93 = .ok (.aload_n 1, 1) := dk_43 (dk_at dksX8_goes_3 23 rfl rfl)
theorem dX8_goes_94 : decode cX8_goes 94 = .ok (.iconst 0, 1) := dk_3 (dk_at dksX8_goes_4 0 rfl rfl)
theorem dX8_goes_95 : decode cX8_goes 95 = .ok (.invokevirtual 305, 3) := dk_182 1 49 (dk_at dksX8_goes_4 1 rfl rfl)
theorem dX8_goes_98 : decode cX8_goes 98 = .ok (.iastore, 1) := dk_79 (dk_at dksX8_goes_4 4 rfl rfl)
theorem dX8_goes_99 : decode cX8_goes 99 = .ok (.aload_n 1, 1) := dk_43 (dk_at dksX8_goes_4 5 rfl rfl)
theorem dX8_goes_100 : decode cX8_goes 100 = .ok (.bipush 26, 2) := dk_16 26 (dk_at dksX8_goes_4 6 rfl rfl)
theorem dX8_goes_102 : decode cX8_goes 102 = .ok (.aload_n 1, 1) := dk_43 (dk_at dksX8_goes_4 8 rfl rfl)
theorem dX8_goes_103 : decode cX8_goes 103 = .ok (.bipush 28, 2) := dk_16 28 (dk_at dksX8_goes_4 9 rfl rfl)
theorem dX8_goes_105 : decode cX8_goes 105 = .ok (.iaload, 1) := dk_46 (dk_at dksX8_goes_4 11 rfl rfl)
theorem dX8_goes_106 : decode cX8_goes 106 = .ok (.aload_n 0, 1) := dk_42 (dk_at dksX8_goes_4 12 rfl rfl)
theorem dX8_goes_107 : decode cX8_goes 107 = .ok (.getfield 290, 3) := dk_180 1 34 (dk_at dksX8_goes_4 13 rfl rfl)
theorem dX8_goes_110 : decode cX8_goes 110 = .ok (.getfield 176, 3) := dk_180 0 176 (dk_at dksX8_goes_4 16 rfl rfl)
theorem dX8_goes_113 : decode cX8_goes 113 = .ok (.if_icmp .le 7, 3) := dk_164 0 7 (dk_at dksX8_goes_4 19 rfl rfl)
theorem dX8_goes_116 : decode cX8_goes 116 = .ok (.iconst 1, 1) := dk_4 (dk_at dksX8_goes_4 22 rfl rfl)
theorem dX8_goes_117 : decode cX8_goes 117 = .ok (.goto 4, 3) := dk_167 0 4 (dk_at dksX8_goes_5 0 rfl rfl)
theorem dX8_goes_120 : decode cX8_goes 120 = .ok (.iconst 0, 1) := dk_3 (dk_at dksX8_goes_5 3 rfl rfl)
theorem dX8_goes_121 : decode cX8_goes 121 = .ok (.iastore, 1) := dk_79 (dk_at dksX8_goes_5 4 rfl rfl)
theorem dX8_goes_122 : decode cX8_goes 122 = .ok (.aload_n 1, 1) := dk_43 (dk_at dksX8_goes_5 5 rfl rfl)
theorem dX8_goes_123 : decode cX8_goes 123 = .ok (.bipush 29, 2) := dk_16 29 (dk_at dksX8_goes_5 6 rfl rfl)
theorem dX8_goes_125 : decode cX8_goes 125 = .ok (.iconst 0, 1) := dk_3 (dk_at dksX8_goes_5 8 rfl rfl)
theorem dX8_goes_126 : decode cX8_goes 126 = .ok (.iastore, 1) := dk_79 (dk_at dksX8_goes_5 9 rfl rfl)
theorem dX8_goes_127 : decode cX8_goes 127 = .ok (.aload_n 1, 1) := dk_43 (dk_at dksX8_goes_5 10 rfl rfl)
theorem dX8_goes_128 : decode cX8_goes 128 = .ok (.bipush 30, 2) := dk_16 30 (dk_at dksX8_goes_5 11 rfl rfl)
theorem dX8_goes_130 : decode cX8_goes 130 = .ok (.iconst 0, 1) := dk_3 (dk_at dksX8_goes_5 13 rfl rfl)
theorem dX8_goes_131 : decode cX8_goes 131 = .ok (.iastore, 1) := dk_79 (dk_at dksX8_goes_5 14 rfl rfl)
theorem dX8_goes_132 : decode cX8_goes 132 = .ok (.aload_n 1, 1) := dk_43 (dk_at dksX8_goes_5 15 rfl rfl)
theorem dX8_goes_133 : decode cX8_goes 133 = .ok (.bipush 26, 2) := dk_16 26 (dk_at dksX8_goes_5 16 rfl rfl)
theorem dX8_goes_135 : decode cX8_goes 135 = .ok (.iaload, 1) := dk_46 (dk_at dksX8_goes_5 18 rfl rfl)
theorem dX8_goes_136 : decode cX8_goes 136 = .ok (.ifCond .ne 11, 3) := dk_154 0 11 (dk_at dksX8_goes_5 19 rfl rfl)
theorem dX8_goes_139 : decode cX8_goes 139 = .ok (.aload_n 0, 1) := dk_42 (dk_at dksX8_goes_5 22 rfl rfl)
theorem dX8_goes_140 : decode cX8_goes 140 = .ok (.aload_n 1, 1) := dk_43 (dk_at dksX8_goes_5 23 rfl rfl)
theorem dX8_goes_141 : decode cX8_goes 141 = .ok (.invokevirtual 309, 3) := dk_182 1 53 (dk_at dksX8_goes_6 0 rfl rfl)
theorem dX8_goes_144 : decode cX8_goes 144 = .ok (.goto 8, 3) := dk_167 0 8 (dk_at dksX8_goes_6 3 rfl rfl)
theorem dX8_goes_147 : decode cX8_goes 147 = .ok (.aload_n 0, 1) := dk_42 (dk_at dksX8_goes_6 6 rfl rfl)
theorem dX8_goes_148 : decode cX8_goes 148 = .ok (.aload_n 1, 1) := dk_43 (dk_at dksX8_goes_6 7 rfl rfl)
theorem dX8_goes_149 : decode cX8_goes 149 = .ok (.invokevirtual 313, 3) := dk_182 1 57 (dk_at dksX8_goes_6 8 rfl rfl)
theorem dX8_goes_152 : decode cX8_goes 152 = .ok (.aload_n 1, 1) := dk_43 (dk_at dksX8_goes_6 11 rfl rfl)
theorem dX8_goes_153 : decode cX8_goes 153 = .ok (.bipush 20, 2) := dk_16 20 (dk_at dksX8_goes_6 12 rfl rfl)
theorem dX8_goes_155 : decode cX8_goes 155 = .ok (.dup2, 1) := dk_92 (dk_at dksX8_goes_6 14 rfl rfl)
theorem dX8_goes_156 : decode cX8_goes 156 = .ok (.iaload, 1) := dk_46 (dk_at dksX8_goes_6 15 rfl rfl)
theorem dX8_goes_157 : decode cX8_goes 157 = .ok (.aload_n 0, 1) := dk_42 (dk_at dksX8_goes_6 16 rfl rfl)
theorem dX8_goes_158 : decode cX8_goes 158 = .ok (.aload_n 1, 1) := dk_43 (dk_at dksX8_goes_6 17 rfl rfl)
theorem dX8_goes_159 : decode cX8_goes 159 = .ok (.bipush 10, 2) := dk_16 10 (dk_at dksX8_goes_6 18 rfl rfl)
theorem dX8_goes_161 : decode cX8_goes 161 = .ok (.invokevirtual 305, 3) := dk_182 1 49 (dk_at dksX8_goes_6 20 rfl rfl)
theorem dX8_goes_164 : decode cX8_goes 164 = .ok (.iadd, 1) := dk_96 (dk_at dksX8_goes_6 23 rfl rfl)
theorem dX8_goes_165 : decode cX8_goes 165 = .ok (.iastore, 1) := dk_79 (dk_at dksX8_goes_7 0 rfl rfl)
theorem dX8_goes_166 : decode cX8_goes 166 = .ok (.aload_n 1, 1) := dk_43 (dk_at dksX8_goes_7 1 rfl rfl)
theorem dX8_goes_167 : decode cX8_goes 167 = .ok (.bipush 20, 2) := dk_16 20 (dk_at dksX8_goes_7 2 rfl rfl)
theorem dX8_goes_169 : decode cX8_goes 169 = .ok (.iaload, 1) := dk_46 (dk_at dksX8_goes_7 4 rfl rfl)
theorem dX8_goes_170 : decode cX8_goes 170 = .ok (.aload_n 0, 1) := dk_42 (dk_at dksX8_goes_7 5 rfl rfl)
theorem dX8_goes_171 : decode cX8_goes 171 = .ok (.getfield 290, 3) := dk_180 1 34 (dk_at dksX8_goes_7 6 rfl rfl)
theorem dX8_goes_174 : decode cX8_goes 174 = .ok (.getfield 186, 3) := dk_180 0 186 (dk_at dksX8_goes_7 9 rfl rfl)
theorem dX8_goes_177 : decode cX8_goes 177 = .ok (.if_icmp .le 18, 3) := dk_164 0 18 (dk_at dksX8_goes_7 12 rfl rfl)
theorem dX8_goes_180 : decode cX8_goes 180 = .ok (.aload_n 1, 1) := dk_43 (dk_at dksX8_goes_7 15 rfl rfl)
theorem dX8_goes_181 : decode cX8_goes 181 = .ok (.bipush 20, 2) := dk_16 20 (dk_at dksX8_goes_7 16 rfl rfl)
theorem dX8_goes_183 : decode cX8_goes 183 = .ok (.iaload, 1) := dk_46 (dk_at dksX8_goes_7 18 rfl rfl)
theorem dX8_goes_184 : decode cX8_goes 184 = .ok (.aload_n 0, 1) := dk_42 (dk_at dksX8_goes_7 19 rfl rfl)
theorem dX8_goes_185 : decode cX8_goes 185 = .ok (.getfield 290, 3) := dk_180 1 34 (dk_at dksX8_goes_7 20 rfl rfl)
theorem dX8_goes_188 : decode cX8_goes 188 = .ok (.getfield 186, 3) := dk_180 0 186 (dk_at dksX8_goes_8 0 rfl rfl)
theorem dX8_goes_191 : decode cX8_goes 191 = .ok (.isub, 1) := dk_100 (dk_at dksX8_goes_8 3 rfl rfl)
theorem dX8_goes_192 : decode cX8_goes 192 = .ok (.goto 4, 3) := dk_167 0 4 (dk_at dksX8_goes_8 4 rfl rfl)
theorem dX8_goes_195 : decode cX8_goes 195 = .ok (.iconst 0, 1) := dk_3 (dk_at dksX8_goes_8 7 rfl rfl)
theorem dX8_goes_196 : decode cX8_goes 196 = .ok (.istore_n 2, 1) := dk_61 (dk_at dksX8_goes_8 8 rfl rfl)
theorem dX8_goes_197 : decode cX8_goes 197 = .ok (.aload_n 1, 1) := dk_43 (dk_at dksX8_goes_8 9 rfl rfl)
theorem dX8_goes_198 : decode cX8_goes 198 = .ok (.bipush 21, 2) := dk_16 21 (dk_at dksX8_goes_8 10 rfl rfl)
theorem dX8_goes_200 : decode cX8_goes 200 = .ok (.dup2, 1) := dk_92 (dk_at dksX8_goes_8 12 rfl rfl)
theorem dX8_goes_201 : decode cX8_goes 201 = .ok (.iaload, 1) := dk_46 (dk_at dksX8_goes_8 13 rfl rfl)
theorem dX8_goes_202 : decode cX8_goes 202 = .ok (.iload_n 2, 1) := dk_28 (dk_at dksX8_goes_8 14 rfl rfl)
theorem dX8_goes_203 : decode cX8_goes 203 = .ok (.iadd, 1) := dk_96 (dk_at dksX8_goes_8 15 rfl rfl)
theorem dX8_goes_204 : decode cX8_goes 204 = .ok (.iastore, 1) := dk_79 (dk_at dksX8_goes_8 16 rfl rfl)
theorem dX8_goes_205 : decode cX8_goes 205 = .ok (.aload_n 1, 1) := dk_43 (dk_at dksX8_goes_8 17 rfl rfl)
theorem dX8_goes_206 : decode cX8_goes 206 = .ok (.bipush 20, 2) := dk_16 20 (dk_at dksX8_goes_8 18 rfl rfl)
theorem dX8_goes_208 : decode cX8_goes 208 = .ok (.dup2, 1) := dk_92 (dk_at dksX8_goes_8 20 rfl rfl)
theorem dX8_goes_209 : decode cX8_goes 209 = .ok (.iaload, 1) := dk_46 (dk_at dksX8_goes_8 21 rfl rfl)
theorem dX8_goes_210 : decode cX8_goes 210 = .ok (.iload_n 2, 1) := dk_28 (dk_at dksX8_goes_8 22 rfl rfl)
theorem dX8_goes_211 : decode cX8_goes 211 = .ok (.isub, 1) := dk_100 (dk_at dksX8_goes_8 23 rfl rfl)
theorem dX8_goes_212 : decode cX8_goes 212 = .ok (.iastore, 1) := dk_79 (dk_at dksX8_goes_9 0 rfl rfl)
theorem dX8_goes_213 : decode cX8_goes 213 = .ok (.aload_n 1, 1) := dk_43 (dk_at dksX8_goes_9 1 rfl rfl)
theorem dX8_goes_214 : decode cX8_goes 214 = .ok (.bipush 20, 2) := dk_16 20 (dk_at dksX8_goes_9 2 rfl rfl)
theorem dX8_goes_216 : decode cX8_goes 216 = .ok (.iaload, 1) := dk_46 (dk_at dksX8_goes_9 4 rfl rfl)
theorem dX8_goes_217 : decode cX8_goes 217 = .ok (.aload_n 0, 1) := dk_42 (dk_at dksX8_goes_9 5 rfl rfl)
theorem dX8_goes_218 : decode cX8_goes 218 = .ok (.getfield 290, 3) := dk_180 1 34 (dk_at dksX8_goes_9 6 rfl rfl)
theorem dX8_goes_221 : decode cX8_goes 221 = .ok (.getfield 252, 3) := dk_180 0 252 (dk_at dksX8_goes_9 9 rfl rfl)
theorem dX8_goes_224 : decode cX8_goes 224 = .ok (.if_icmp .ge 10, 3) := dk_162 0 10 (dk_at dksX8_goes_9 12 rfl rfl)
theorem dX8_goes_227 : decode cX8_goes 227 = .ok (.aload_n 1, 1) := dk_43 (dk_at dksX8_goes_9 15 rfl rfl)
theorem dX8_goes_228 : decode cX8_goes 228 = .ok (.bipush 20, 2) := dk_16 20 (dk_at dksX8_goes_9 16 rfl rfl)
theorem dX8_goes_230 : decode cX8_goes 230 = .ok (.iaload, 1) := dk_46 (dk_at dksX8_goes_9 18 rfl rfl)
theorem dX8_goes_231 : decode cX8_goes 231 = .ok (.goto 10, 3) := dk_167 0 10 (dk_at dksX8_goes_9 19 rfl rfl)
theorem dX8_goes_234 : decode cX8_goes 234 = .ok (.aload_n 0, 1) := dk_42 (dk_at dksX8_goes_9 22 rfl rfl)
theorem dX8_goes_235 : decode cX8_goes 235 = .ok (.getfield 290, 3) := dk_180 1 34 (dk_at dksX8_goes_10 0 rfl rfl)
theorem dX8_goes_238 : decode cX8_goes 238 = .ok (.getfield 252, 3) := dk_180 0 252 (dk_at dksX8_goes_10 3 rfl rfl)
theorem dX8_goes_241 : decode cX8_goes 241 = .ok (.istore_n 3, 1) := dk_62 (dk_at dksX8_goes_10 6 rfl rfl)
theorem dX8_goes_242 : decode cX8_goes 242 = .ok (.aload_n 1, 1) := dk_43 (dk_at dksX8_goes_10 7 rfl rfl)
theorem dX8_goes_243 : decode cX8_goes 243 = .ok (.bipush 20, 2) := dk_16 20 (dk_at dksX8_goes_10 8 rfl rfl)
theorem dX8_goes_245 : decode cX8_goes 245 = .ok (.dup2, 1) := dk_92 (dk_at dksX8_goes_10 10 rfl rfl)
theorem dX8_goes_246 : decode cX8_goes 246 = .ok (.iaload, 1) := dk_46 (dk_at dksX8_goes_10 11 rfl rfl)
theorem dX8_goes_247 : decode cX8_goes 247 = .ok (.iload_n 3, 1) := dk_29 (dk_at dksX8_goes_10 12 rfl rfl)
theorem dX8_goes_248 : decode cX8_goes 248 = .ok (.isub, 1) := dk_100 (dk_at dksX8_goes_10 13 rfl rfl)
theorem dX8_goes_249 : decode cX8_goes 249 = .ok (.iastore, 1) := dk_79 (dk_at dksX8_goes_10 14 rfl rfl)
theorem dX8_goes_250 : decode cX8_goes 250 = .ok (.aload_n 1, 1) := dk_43 (dk_at dksX8_goes_10 15 rfl rfl)
theorem dX8_goes_251 : decode cX8_goes 251 = .ok (.bipush 22, 2) := dk_16 22 (dk_at dksX8_goes_10 16 rfl rfl)
theorem dX8_goes_253 : decode cX8_goes 253 = .ok (.dup2, 1) := dk_92 (dk_at dksX8_goes_10 18 rfl rfl)
theorem dX8_goes_254 : decode cX8_goes 254 = .ok (.iaload, 1) := dk_46 (dk_at dksX8_goes_10 19 rfl rfl)
theorem dX8_goes_255 : decode cX8_goes 255 = .ok (.iload_n 3, 1) := dk_29 (dk_at dksX8_goes_10 20 rfl rfl)
theorem dX8_goes_256 : decode cX8_goes 256 = .ok (.iadd, 1) := dk_96 (dk_at dksX8_goes_10 21 rfl rfl)
theorem dX8_goes_257 : decode cX8_goes 257 = .ok (.iastore, 1) := dk_79 (dk_at dksX8_goes_10 22 rfl rfl)
theorem dX8_goes_258 : decode cX8_goes 258 = .ok (.aload_n 1, 1) := dk_43 (dk_at dksX8_goes_10 23 rfl rfl)
theorem dX8_goes_259 : decode cX8_goes 259 = .ok (.bipush 23, 2) := dk_16 23 (dk_at dksX8_goes_11 0 rfl rfl)
theorem dX8_goes_261 : decode cX8_goes 261 = .ok (.dup2, 1) := dk_92 (dk_at dksX8_goes_11 2 rfl rfl)
theorem dX8_goes_262 : decode cX8_goes 262 = .ok (.iaload, 1) := dk_46 (dk_at dksX8_goes_11 3 rfl rfl)
theorem dX8_goes_263 : decode cX8_goes 263 = .ok (.aload_n 0, 1) := dk_42 (dk_at dksX8_goes_11 4 rfl rfl)
theorem dX8_goes_264 : decode cX8_goes 264 = .ok (.getfield 290, 3) := dk_180 1 34 (dk_at dksX8_goes_11 5 rfl rfl)
theorem dX8_goes_267 : decode cX8_goes 267 = .ok (.getfield 252, 3) := dk_180 0 252 (dk_at dksX8_goes_11 8 rfl rfl)
theorem dX8_goes_270 : decode cX8_goes 270 = .ok (.iload_n 3, 1) := dk_29 (dk_at dksX8_goes_11 11 rfl rfl)
theorem dX8_goes_271 : decode cX8_goes 271 = .ok (.isub, 1) := dk_100 (dk_at dksX8_goes_11 12 rfl rfl)
theorem dX8_goes_272 : decode cX8_goes 272 = .ok (.iadd, 1) := dk_96 (dk_at dksX8_goes_11 13 rfl rfl)
theorem dX8_goes_273 : decode cX8_goes 273 = .ok (.iastore, 1) := dk_79 (dk_at dksX8_goes_11 14 rfl rfl)
theorem dX8_goes_274 : decode cX8_goes 274 = .ok (.aload_n 0, 1) := dk_42 (dk_at dksX8_goes_11 15 rfl rfl)
theorem dX8_goes_275 : decode cX8_goes 275 = .ok (.getfield 290, 3) := dk_180 1 34 (dk_at dksX8_goes_11 16 rfl rfl)
theorem dX8_goes_278 : decode cX8_goes 278 = .ok (.getfield 233, 3) := dk_180 0 233 (dk_at dksX8_goes_11 19 rfl rfl)
theorem dX8_goes_281 : decode cX8_goes 281 = .ok (.aload_n 0, 1) := dk_42 (dk_at dksX8_goes_11 22 rfl rfl)
theorem dX8_goes_282 : decode cX8_goes 282 = .ok (.getfield 290, 3) := dk_180 1 34 (dk_at dksX8_goes_12 0 rfl rfl)
theorem dX8_goes_285 : decode cX8_goes 285 = .ok (.getfield 233, 3) := dk_180 0 233 (dk_at dksX8_goes_12 3 rfl rfl)
theorem dX8_goes_288 : decode cX8_goes 288 = .ok (.aload_n 1, 1) := dk_43 (dk_at dksX8_goes_12 6 rfl rfl)
theorem dX8_goes_289 : decode cX8_goes 289 = .ok (.bipush 28, 2) := dk_16 28 (dk_at dksX8_goes_12 7 rfl rfl)
theorem dX8_goes_291 : decode cX8_goes 291 = .ok (.iaload, 1) := dk_46 (dk_at dksX8_goes_12 9 rfl rfl)
theorem dX8_goes_292 : decode cX8_goes 292 = .ok (.imul, 1) := dk_104 (dk_at dksX8_goes_12 10 rfl rfl)
theorem dX8_goes_293 : decode cX8_goes 293 = .ok (.aload_n 0, 1) := dk_42 (dk_at dksX8_goes_12 11 rfl rfl)
theorem dX8_goes_294 : decode cX8_goes 294 = .ok (.getfield 290, 3) := dk_180 1 34 (dk_at dksX8_goes_12 12 rfl rfl)
theorem dX8_goes_297 : decode cX8_goes 297 = .ok (.getfield 176, 3) := dk_180 0 176 (dk_at dksX8_goes_12 15 rfl rfl)
theorem dX8_goes_300 : decode cX8_goes 300 = .ok (.idiv, 1) := dk_108 (dk_at dksX8_goes_12 18 rfl rfl)
theorem dX8_goes_301 : decode cX8_goes 301 = .ok (.isub, 1) := dk_100 (dk_at dksX8_goes_12 19 rfl rfl)
theorem dX8_goes_302 : decode cX8_goes 302 = .ok (.istore 4, 2) := dk_54 4 (dk_at dksX8_goes_12 20 rfl rfl)
theorem dX8_goes_304 : decode cX8_goes 304 = .ok (.aload_n 1, 1) := dk_43 (dk_at dksX8_goes_12 22 rfl rfl)
theorem dX8_goes_305 : decode cX8_goes 305 = .ok (.bipush 31, 2) := dk_16 31 (dk_at dksX8_goes_13 0 rfl rfl)
theorem dX8_goes_307 : decode cX8_goes 307 = .ok (.iload 4, 2) := dk_21 4 (dk_at dksX8_goes_13 2 rfl rfl)
theorem dX8_goes_309 : decode cX8_goes 309 = .ok (.ifCond .ge 7, 3) := dk_156 0 7 (dk_at dksX8_goes_13 4 rfl rfl)
theorem dX8_goes_312 : decode cX8_goes 312 = .ok (.iconst 0, 1) := dk_3 (dk_at dksX8_goes_13 7 rfl rfl)
theorem dX8_goes_313 : decode cX8_goes 313 = .ok (.goto 5, 3) := dk_167 0 5 (dk_at dksX8_goes_13 8 rfl rfl)
theorem dX8_goes_316 : decode cX8_goes 316 = .ok (.iload 4, 2) := dk_21 4 (dk_at dksX8_goes_13 11 rfl rfl)
theorem dX8_goes_318 : decode cX8_goes 318 = .ok (.iastore, 1) := dk_79 (dk_at dksX8_goes_13 13 rfl rfl)
theorem dX8_goes_319 : decode cX8_goes 319 = .ok (.aload_n 1, 1) := dk_43 (dk_at dksX8_goes_13 14 rfl rfl)
theorem dX8_goes_320 : decode cX8_goes 320 = .ok (.bipush 32, 2) := dk_16 32 (dk_at dksX8_goes_13 15 rfl rfl)
theorem dX8_goes_322 : decode cX8_goes 322 = .ok (.dup2, 1) := dk_92 (dk_at dksX8_goes_13 17 rfl rfl)
theorem dX8_goes_323 : decode cX8_goes 323 = .ok (.iaload, 1) := dk_46 (dk_at dksX8_goes_13 18 rfl rfl)
theorem dX8_goes_324 : decode cX8_goes 324 = .ok (.aload_n 1, 1) := dk_43 (dk_at dksX8_goes_13 19 rfl rfl)
theorem dX8_goes_325 : decode cX8_goes 325 = .ok (.bipush 30, 2) := dk_16 30 (dk_at dksX8_goes_13 20 rfl rfl)
theorem dX8_goes_327 : decode cX8_goes 327 = .ok (.iaload, 1) := dk_46 (dk_at dksX8_goes_13 22 rfl rfl)
theorem dX8_goes_328 : decode cX8_goes 328 = .ok (.aload_n 0, 1) := dk_42 (dk_at dksX8_goes_13 23 rfl rfl)
theorem dX8_goes_329 : decode cX8_goes 329 = .ok (.getfield 290, 3) := dk_180 1 34 (dk_at dksX8_goes_14 0 rfl rfl)
theorem dX8_goes_332 : decode cX8_goes 332 = .ok (.getfield 254, 3) := dk_180 0 254 (dk_at dksX8_goes_14 3 rfl rfl)
theorem dX8_goes_335 : decode cX8_goes 335 = .ok (.aload_n 1, 1) := dk_43 (dk_at dksX8_goes_14 6 rfl rfl)
theorem dX8_goes_336 : decode cX8_goes 336 = .ok (.bipush 27, 2) := dk_16 27 (dk_at dksX8_goes_14 7 rfl rfl)
theorem dX8_goes_338 : decode cX8_goes 338 = .ok (.iaload, 1) := dk_46 (dk_at dksX8_goes_14 9 rfl rfl)
theorem dX8_goes_339 : decode cX8_goes 339 = .ok (.aload_n 0, 1) := dk_42 (dk_at dksX8_goes_14 10 rfl rfl)
theorem dX8_goes_340 : decode cX8_goes 340 = .ok (.getfield 290, 3) := dk_180 1 34 (dk_at dksX8_goes_14 11 rfl rfl)
theorem dX8_goes_343 : decode cX8_goes 343 = .ok (.getfield 188, 3) := dk_180 0 188 (dk_at dksX8_goes_14 14 rfl rfl)
theorem dX8_goes_346 : decode cX8_goes 346 = .ok (.irem, 1) := dk_112 (dk_at dksX8_goes_14 17 rfl rfl)
theorem dX8_goes_347 : decode cX8_goes 347 = .ok (.iaload, 1) := dk_46 (dk_at dksX8_goes_14 18 rfl rfl)
theorem dX8_goes_348 : decode cX8_goes 348 = .ok (.imul, 1) := dk_104 (dk_at dksX8_goes_14 19 rfl rfl)
theorem dX8_goes_349 : decode cX8_goes 349 = .ok (.iadd, 1) := dk_96 (dk_at dksX8_goes_14 20 rfl rfl)
theorem dX8_goes_350 : decode cX8_goes 350 = .ok (.iastore, 1) := dk_79 (dk_at dksX8_goes_14 21 rfl rfl)
theorem dX8_goes_351 : decode cX8_goes 351 = .ok (.aload_n 1, 1) := dk_43 (dk_at dksX8_goes_14 22 rfl rfl)
theorem dX8_goes_352 : decode cX8_goes 352 = .ok (.bipush 24, 2) := dk_16 24 (dk_at dksX8_goes_15 0 rfl rfl)
theorem dX8_goes_354 : decode cX8_goes 354 = .ok (.dup2, 1) := dk_92 (dk_at dksX8_goes_15 2 rfl rfl)
theorem dX8_goes_355 : decode cX8_goes 355 = .ok (.iaload, 1) := dk_46 (dk_at dksX8_goes_15 3 rfl rfl)
theorem dX8_goes_356 : decode cX8_goes 356 = .ok (.iconst 1, 1) := dk_4 (dk_at dksX8_goes_15 4 rfl rfl)
theorem dX8_goes_357 : decode cX8_goes 357 = .ok (.iadd, 1) := dk_96 (dk_at dksX8_goes_15 5 rfl rfl)
theorem dX8_goes_358 : decode cX8_goes 358 = .ok (.iastore, 1) := dk_79 (dk_at dksX8_goes_15 6 rfl rfl)
theorem dX8_goes_359 : decode cX8_goes 359 = .ok (.aload_n 1, 1) := dk_43 (dk_at dksX8_goes_15 7 rfl rfl)
theorem dX8_goes_360 : decode cX8_goes 360 = .ok (.bipush 27, 2) := dk_16 27 (dk_at dksX8_goes_15 8 rfl rfl)
theorem dX8_goes_362 : decode cX8_goes 362 = .ok (.dup2, 1) := dk_92 (dk_at dksX8_goes_15 10 rfl rfl)
theorem dX8_goes_363 : decode cX8_goes 363 = .ok (.iaload, 1) := dk_46 (dk_at dksX8_goes_15 11 rfl rfl)
theorem dX8_goes_364 : decode cX8_goes 364 = .ok (.iconst 1, 1) := dk_4 (dk_at dksX8_goes_15 12 rfl rfl)
theorem dX8_goes_365 : decode cX8_goes 365 = .ok (.iadd, 1) := dk_96 (dk_at dksX8_goes_15 13 rfl rfl)
theorem dX8_goes_366 : decode cX8_goes 366 = .ok (.iastore, 1) := dk_79 (dk_at dksX8_goes_15 14 rfl rfl)
theorem dX8_goes_367 : decode cX8_goes 367 = .ok (.return_, 1) := dk_177 (dk_at dksX8_goes_15 15 rfl rfl)
abbrev cX8_sumOf : ByteArray := prog_14_method_35_code
def yX8_sumOf : MethodName := ⟨RX8, "sumOf", "([II)I"⟩
def dkwX8_sumOf_1 : List UInt8 := [96, 62, 132, 4, 1, 167, 255, 232, 29, 172]
abbrev dktX8_sumOf_1 : List UInt8 := dkwX8_sumOf_1 ++ []
def dkwX8_sumOf_0 : List UInt8 := [3, 62, 3, 54, 4, 21, 4, 42, 180, 1, 34, 180, 0, 191, 162, 0, 18, 29, 43, 28, 21, 4, 96, 46]
abbrev dktX8_sumOf_0 : List UInt8 := dkwX8_sumOf_0 ++ dktX8_sumOf_1
theorem dksX8_sumOf_0 : cX8_sumOf.data.toList.drop 0 = dktX8_sumOf_0 := by decide +kernel
theorem dksX8_sumOf_1 : cX8_sumOf.data.toList.drop 24 = dktX8_sumOf_1 := dk_seg dksX8_sumOf_0 24 rfl rfl
theorem dX8_sumOf_0 : decode cX8_sumOf 0 = .ok (.iconst 0, 1) := dk_3 (dk_at dksX8_sumOf_0 0 rfl rfl)
theorem dX8_sumOf_1 : decode cX8_sumOf 1 = .ok (.istore_n 3, 1) := dk_62 (dk_at dksX8_sumOf_0 1 rfl rfl)
theorem dX8_sumOf_2 : decode cX8_sumOf 2 = .ok (.iconst 0, 1) := dk_3 (dk_at dksX8_sumOf_0 2 rfl rfl)
theorem dX8_sumOf_3 : decode cX8_sumOf 3 = .ok (.istore 4, 2) := dk_54 4 (dk_at dksX8_sumOf_0 3 rfl rfl)
theorem dX8_sumOf_5 : decode cX8_sumOf 5 = .ok (.iload 4, 2) := dk_21 4 (dk_at dksX8_sumOf_0 5 rfl rfl)
theorem dX8_sumOf_7 : decode cX8_sumOf 7 = .ok (.aload_n 0, 1) := dk_42 (dk_at dksX8_sumOf_0 7 rfl rfl)
theorem dX8_sumOf_8 : decode cX8_sumOf 8 = .ok (.getfield 290, 3) := dk_180 1 34 (dk_at dksX8_sumOf_0 8 rfl rfl)
theorem dX8_sumOf_11 : decode cX8_sumOf 11 = .ok (.getfield 191, 3) := dk_180 0 191 (dk_at dksX8_sumOf_0 11 rfl rfl)
theorem dX8_sumOf_14 : decode cX8_sumOf 14 = .ok (.if_icmp .ge 18, 3) := dk_162 0 18 (dk_at dksX8_sumOf_0 14 rfl rfl)
theorem dX8_sumOf_17 : decode cX8_sumOf 17 = .ok (.iload_n 3, 1) := dk_29 (dk_at dksX8_sumOf_0 17 rfl rfl)
theorem dX8_sumOf_18 : decode cX8_sumOf 18 = .ok (.aload_n 1, 1) := dk_43 (dk_at dksX8_sumOf_0 18 rfl rfl)
theorem dX8_sumOf_19 : decode cX8_sumOf 19 = .ok (.iload_n 2, 1) := dk_28 (dk_at dksX8_sumOf_0 19 rfl rfl)
theorem dX8_sumOf_20 : decode cX8_sumOf 20 = .ok (.iload 4, 2) := dk_21 4 (dk_at dksX8_sumOf_0 20 rfl rfl)
theorem dX8_sumOf_22 : decode cX8_sumOf 22 = .ok (.iadd, 1) := dk_96 (dk_at dksX8_sumOf_0 22 rfl rfl)
theorem dX8_sumOf_23 : decode cX8_sumOf 23 = .ok (.iaload, 1) := dk_46 (dk_at dksX8_sumOf_0 23 rfl rfl)
theorem dX8_sumOf_24 : decode cX8_sumOf 24 = .ok (.iadd, 1) := dk_96 (dk_at dksX8_sumOf_1 0 rfl rfl)
theorem dX8_sumOf_25 : decode cX8_sumOf 25 = .ok (.istore_n 3, 1) := dk_62 (dk_at dksX8_sumOf_1 1 rfl rfl)
theorem dX8_sumOf_26 : decode cX8_sumOf 26 = .ok (.iinc 4 1, 3) := dk_132 4 1 (dk_at dksX8_sumOf_1 2 rfl rfl)
theorem dX8_sumOf_29 : decode cX8_sumOf 29 = .ok (.goto (-24), 3) := dk_167 255 232 (dk_at dksX8_sumOf_1 5 rfl rfl)
theorem dX8_sumOf_32 : decode cX8_sumOf 32 = .ok (.iload_n 3, 1) := dk_29 (dk_at dksX8_sumOf_1 8 rfl rfl)
theorem dX8_sumOf_33 : decode cX8_sumOf 33 = .ok (.ireturn, 1) := dk_172 (dk_at dksX8_sumOf_1 9 rfl rfl)
abbrev cX8_grinds : ByteArray := prog_14_method_40_code
def yX8_grinds : MethodName := ⟨RX8, "grinds", "([I)V"⟩
def dkwX8_grinds_10 : List UInt8 := [132, 2, 1, 167, 255, 169, 177]
abbrev dktX8_grinds_10 : List UInt8 := dkwX8_grinds_10 ++ []
def dkwX8_grinds_9 : List UInt8 := [21, 4, 79, 43, 16, 15, 28, 96, 92, 46, 21, 4, 96, 79, 43, 8, 28, 96, 29, 21, 4, 100, 79]
abbrev dktX8_grinds_9 : List UInt8 := dkwX8_grinds_9 ++ dktX8_grinds_10
def dkwX8_grinds_8 : List UInt8 := [46, 182, 1, 64, 104, 16, 100, 108, 54, 4, 43, 3, 28, 96, 92, 46, 29, 100, 79, 43, 16, 10, 28, 96]
abbrev dktX8_grinds_8 : List UInt8 := dkwX8_grinds_8 ++ dktX8_grinds_9
def dkwX8_grinds_7 : List UInt8 := [28, 96, 46, 16, 20, 16, 10, 43, 16, 35, 46, 104, 96, 104, 16, 100, 108, 62, 29, 42, 28, 43, 16, 25]
abbrev dktX8_grinds_7 : List UInt8 := dkwX8_grinds_7 ++ dktX8_grinds_8
def dkwX8_grinds_6 : List UInt8 := [100, 96, 79, 132, 2, 255, 167, 255, 154, 3, 61, 28, 42, 180, 1, 34, 180, 0, 191, 162, 0, 82, 43, 3]
abbrev dktX8_grinds_6 : List UInt8 := dkwX8_grinds_6 ++ dktX8_grinds_7
def dkwX8_grinds_5 : List UInt8 := [180, 1, 34, 180, 0, 191, 162, 0, 9, 28, 5, 96, 167, 0, 6, 28, 4, 96, 96, 92, 46, 29, 21, 4]
abbrev dktX8_grinds_5 : List UInt8 := dkwX8_grinds_5 ++ dktX8_grinds_6
def dkwX8_grinds_4 : List UInt8 := [96, 92, 46, 29, 100, 79, 43, 3, 28, 96, 4, 96, 92, 46, 21, 4, 96, 79, 43, 3, 28, 5, 96, 42]
abbrev dktX8_grinds_4 : List UInt8 := dkwX8_grinds_4 ++ dktX8_grinds_5
def dkwX8_grinds_3 : List UInt8 := [17, 39, 16, 108, 62, 29, 42, 180, 1, 34, 180, 1, 14, 28, 46, 104, 16, 100, 108, 54, 4, 43, 3, 28]
abbrev dktX8_grinds_3 : List UInt8 := dkwX8_grinds_3 ++ dktX8_grinds_4
def dkwX8_grinds_2 : List UInt8 := [155, 0, 104, 43, 3, 28, 96, 46, 42, 180, 1, 34, 180, 1, 11, 28, 46, 104, 43, 16, 29, 46, 104]
abbrev dktX8_grinds_2 : List UInt8 := dkwX8_grinds_2 ++ dktX8_grinds_3
def dkwX8_grinds_1 : List UInt8 := [16, 28, 46, 43, 16, 29, 46, 104, 16, 100, 108, 79, 42, 180, 1, 34, 180, 0, 191, 5, 100, 61, 28]
abbrev dktX8_grinds_1 : List UInt8 := dkwX8_grinds_1 ++ dktX8_grinds_2
def dkwX8_grinds_0 : List UInt8 := [43, 16, 29, 42, 43, 16, 28, 46, 43, 16, 24, 46, 43, 16, 36, 46, 182, 1, 60, 79, 43, 16, 30, 43]
abbrev dktX8_grinds_0 : List UInt8 := dkwX8_grinds_0 ++ dktX8_grinds_1
theorem dksX8_grinds_0 : cX8_grinds.data.toList.drop 0 = dktX8_grinds_0 := by decide +kernel
theorem dksX8_grinds_1 : cX8_grinds.data.toList.drop 24 = dktX8_grinds_1 := dk_seg dksX8_grinds_0 24 rfl rfl
theorem dksX8_grinds_2 : cX8_grinds.data.toList.drop 47 = dktX8_grinds_2 := dk_seg dksX8_grinds_1 23 rfl rfl
theorem dksX8_grinds_3 : cX8_grinds.data.toList.drop 70 = dktX8_grinds_3 := dk_seg dksX8_grinds_2 23 rfl rfl
theorem dksX8_grinds_4 : cX8_grinds.data.toList.drop 94 = dktX8_grinds_4 := dk_seg dksX8_grinds_3 24 rfl rfl
theorem dksX8_grinds_5 : cX8_grinds.data.toList.drop 118 = dktX8_grinds_5 := dk_seg dksX8_grinds_4 24 rfl rfl
theorem dksX8_grinds_6 : cX8_grinds.data.toList.drop 142 = dktX8_grinds_6 := dk_seg dksX8_grinds_5 24 rfl rfl
theorem dksX8_grinds_7 : cX8_grinds.data.toList.drop 166 = dktX8_grinds_7 := dk_seg dksX8_grinds_6 24 rfl rfl
theorem dksX8_grinds_8 : cX8_grinds.data.toList.drop 190 = dktX8_grinds_8 := dk_seg dksX8_grinds_7 24 rfl rfl
theorem dksX8_grinds_9 : cX8_grinds.data.toList.drop 214 = dktX8_grinds_9 := dk_seg dksX8_grinds_8 24 rfl rfl
theorem dksX8_grinds_10 : cX8_grinds.data.toList.drop 237 = dktX8_grinds_10 := dk_seg dksX8_grinds_9 23 rfl rfl
theorem dX8_grinds_0 : decode cX8_grinds 0 = .ok (.aload_n 1, 1) := dk_43 (dk_at dksX8_grinds_0 0 rfl rfl)
theorem dX8_grinds_1 : decode cX8_grinds 1 = .ok (.bipush 29, 2) := dk_16 29 (dk_at dksX8_grinds_0 1 rfl rfl)
theorem dX8_grinds_3 : decode cX8_grinds 3 = .ok (.aload_n 0, 1) := dk_42 (dk_at dksX8_grinds_0 3 rfl rfl)
theorem dX8_grinds_4 : decode cX8_grinds 4 = .ok (.aload_n 1, 1) := dk_43 (dk_at dksX8_grinds_0 4 rfl rfl)
theorem dX8_grinds_5 : decode cX8_grinds 5 = .ok (.bipush 28, 2) := dk_16 28 (dk_at dksX8_grinds_0 5 rfl rfl)
theorem dX8_grinds_7 : decode cX8_grinds 7 = .ok (.iaload, 1) := dk_46 (dk_at dksX8_grinds_0 7 rfl rfl)
theorem dX8_grinds_8 : decode cX8_grinds 8 = .ok (.aload_n 1, 1) := dk_43 (dk_at dksX8_grinds_0 8 rfl rfl)
theorem dX8_grinds_9 : decode cX8_grinds 9 = .ok (.bipush 24, 2) := dk_16 24 (dk_at dksX8_grinds_0 9 rfl rfl)
theorem dX8_grinds_11 : decode cX8_grinds 11 = .ok (.iaload, 1) := dk_46 (dk_at dksX8_grinds_0 11 rfl rfl)
theorem dX8_grinds_12 : decode cX8_grinds 12 = .ok (.aload_n 1, 1) := dk_43 (dk_at dksX8_grinds_0 12 rfl rfl)
theorem dX8_grinds_13 : decode cX8_grinds 13 = .ok (.bipush 36, 2) := dk_16 36 (dk_at dksX8_grinds_0 13 rfl rfl)
theorem dX8_grinds_15 : decode cX8_grinds 15 = .ok (.iaload, 1) := dk_46 (dk_at dksX8_grinds_0 15 rfl rfl)
theorem dX8_grinds_16 : decode cX8_grinds 16 = .ok (.invokevirtual 316, 3) := dk_182 1 60 (dk_at dksX8_grinds_0 16 rfl rfl)
theorem dX8_grinds_19 : decode cX8_grinds 19 = .ok (.iastore, 1) := dk_79 (dk_at dksX8_grinds_0 19 rfl rfl)
theorem dX8_grinds_20 : decode cX8_grinds 20 = .ok (.aload_n 1, 1) := dk_43 (dk_at dksX8_grinds_0 20 rfl rfl)
theorem dX8_grinds_21 : decode cX8_grinds 21 = .ok (.bipush 30, 2) := dk_16 30 (dk_at dksX8_grinds_0 21 rfl rfl)
theorem dX8_grinds_23 : decode cX8_grinds 23 = .ok (.aload_n 1, 1) := dk_43 (dk_at dksX8_grinds_0 23 rfl rfl)
theorem dX8_grinds_24 : decode cX8_grinds 24 = .ok (.bipush 28, 2) := dk_16 28 (dk_at dksX8_grinds_1 0 rfl rfl)
theorem dX8_grinds_26 : decode cX8_grinds 26 = .ok (.iaload, 1) := dk_46 (dk_at dksX8_grinds_1 2 rfl rfl)
theorem dX8_grinds_27 : decode cX8_grinds 27 = .ok (.aload_n 1, 1) := dk_43 (dk_at dksX8_grinds_1 3 rfl rfl)
theorem dX8_grinds_28 : decode cX8_grinds 28 = .ok (.bipush 29, 2) := dk_16 29 (dk_at dksX8_grinds_1 4 rfl rfl)
theorem dX8_grinds_30 : decode cX8_grinds 30 = .ok (.iaload, 1) := dk_46 (dk_at dksX8_grinds_1 6 rfl rfl)
theorem dX8_grinds_31 : decode cX8_grinds 31 = .ok (.imul, 1) := dk_104 (dk_at dksX8_grinds_1 7 rfl rfl)
theorem dX8_grinds_32 : decode cX8_grinds 32 = .ok (.bipush 100, 2) := dk_16 100 (dk_at dksX8_grinds_1 8 rfl rfl)
theorem dX8_grinds_34 : decode cX8_grinds 34 = .ok (.idiv, 1) := dk_108 (dk_at dksX8_grinds_1 10 rfl rfl)
theorem dX8_grinds_35 : decode cX8_grinds 35 = .ok (.iastore, 1) := dk_79 (dk_at dksX8_grinds_1 11 rfl rfl)
theorem dX8_grinds_36 : decode cX8_grinds 36 = .ok (.aload_n 0, 1) := dk_42 (dk_at dksX8_grinds_1 12 rfl rfl)
theorem dX8_grinds_37 : decode cX8_grinds 37 = .ok (.getfield 290, 3) := dk_180 1 34 (dk_at dksX8_grinds_1 13 rfl rfl)
theorem dX8_grinds_40 : decode cX8_grinds 40 = .ok (.getfield 191, 3) := dk_180 0 191 (dk_at dksX8_grinds_1 16 rfl rfl)
theorem dX8_grinds_43 : decode cX8_grinds 43 = .ok (.iconst 2, 1) := dk_5 (dk_at dksX8_grinds_1 19 rfl rfl)
theorem dX8_grinds_44 : decode cX8_grinds 44 = .ok (.isub, 1) := dk_100 (dk_at dksX8_grinds_1 20 rfl rfl)
theorem dX8_grinds_45 : decode cX8_grinds 45 = .ok (.istore_n 2, 1) := dk_61 (dk_at dksX8_grinds_1 21 rfl rfl)
theorem dX8_grinds_46 : decode cX8_grinds 46 = .ok (.iload_n 2, 1) := dk_28 (dk_at dksX8_grinds_1 22 rfl rfl)
theorem dX8_grinds_47 : decode cX8_grinds 47 = .ok (.ifCond .lt 104, 3) := dk_155 0 104 (dk_at dksX8_grinds_2 0 rfl rfl)
theorem dX8_grinds_50 : decode cX8_grinds 50 = .ok (.aload_n 1, 1) := dk_43 (dk_at dksX8_grinds_2 3 rfl rfl)
theorem dX8_grinds_51 : decode cX8_grinds 51 = .ok (.iconst 0, 1) := dk_3 (dk_at dksX8_grinds_2 4 rfl rfl)
theorem dX8_grinds_52 : decode cX8_grinds 52 = .ok (.iload_n 2, 1) := dk_28 (dk_at dksX8_grinds_2 5 rfl rfl)
theorem dX8_grinds_53 : decode cX8_grinds 53 = .ok (.iadd, 1) := dk_96 (dk_at dksX8_grinds_2 6 rfl rfl)
theorem dX8_grinds_54 : decode cX8_grinds 54 = .ok (.iaload, 1) := dk_46 (dk_at dksX8_grinds_2 7 rfl rfl)
theorem dX8_grinds_55 : decode cX8_grinds 55 = .ok (.aload_n 0, 1) := dk_42 (dk_at dksX8_grinds_2 8 rfl rfl)
theorem dX8_grinds_56 : decode cX8_grinds 56 = .ok (.getfield 290, 3) := dk_180 1 34 (dk_at dksX8_grinds_2 9 rfl rfl)
theorem dX8_grinds_59 : decode cX8_grinds 59 = .ok (.getfield 267, 3) := dk_180 1 11 (dk_at dksX8_grinds_2 12 rfl rfl)
theorem dX8_grinds_62 : decode cX8_grinds 62 = .ok (.iload_n 2, 1) := dk_28 (dk_at dksX8_grinds_2 15 rfl rfl)
theorem dX8_grinds_63 : decode cX8_grinds 63 = .ok (.iaload, 1) := dk_46 (dk_at dksX8_grinds_2 16 rfl rfl)
theorem dX8_grinds_64 : decode cX8_grinds 64 = .ok (.imul, 1) := dk_104 (dk_at dksX8_grinds_2 17 rfl rfl)
theorem dX8_grinds_65 : decode cX8_grinds 65 = .ok (.aload_n 1, 1) := dk_43 (dk_at dksX8_grinds_2 18 rfl rfl)
theorem dX8_grinds_66 : decode cX8_grinds 66 = .ok (.bipush 29, 2) := dk_16 29 (dk_at dksX8_grinds_2 19 rfl rfl)
theorem dX8_grinds_68 : decode cX8_grinds 68 = .ok (.iaload, 1) := dk_46 (dk_at dksX8_grinds_2 21 rfl rfl)
theorem dX8_grinds_69 : decode cX8_grinds 69 = .ok (.imul, 1) := dk_104 (dk_at dksX8_grinds_2 22 rfl rfl)
theorem dX8_grinds_70 : decode cX8_grinds 70 = .ok (.sipush 10000, 3) := dk_17 39 16 (dk_at dksX8_grinds_3 0 rfl rfl)
theorem dX8_grinds_73 : decode cX8_grinds 73 = .ok (.idiv, 1) := dk_108 (dk_at dksX8_grinds_3 3 rfl rfl)
theorem dX8_grinds_74 : decode cX8_grinds 74 = .ok (.istore_n 3, 1) := dk_62 (dk_at dksX8_grinds_3 4 rfl rfl)
theorem dX8_grinds_75 : decode cX8_grinds 75 = .ok (.iload_n 3, 1) := dk_29 (dk_at dksX8_grinds_3 5 rfl rfl)
theorem dX8_grinds_76 : decode cX8_grinds 76 = .ok (.aload_n 0, 1) := dk_42 (dk_at dksX8_grinds_3 6 rfl rfl)
theorem dX8_grinds_77 : decode cX8_grinds 77 = .ok (.getfield 290, 3) := dk_180 1 34 (dk_at dksX8_grinds_3 7 rfl rfl)
theorem dX8_grinds_80 : decode cX8_grinds 80 = .ok (.getfield 270, 3) := dk_180 1 14 (dk_at dksX8_grinds_3 10 rfl rfl)
theorem dX8_grinds_83 : decode cX8_grinds 83 = .ok (.iload_n 2, 1) := dk_28 (dk_at dksX8_grinds_3 13 rfl rfl)
theorem dX8_grinds_84 : decode cX8_grinds 84 = .ok (.iaload, 1) := dk_46 (dk_at dksX8_grinds_3 14 rfl rfl)
theorem dX8_grinds_85 : decode cX8_grinds 85 = .ok (.imul, 1) := dk_104 (dk_at dksX8_grinds_3 15 rfl rfl)
theorem dX8_grinds_86 : decode cX8_grinds 86 = .ok (.bipush 100, 2) := dk_16 100 (dk_at dksX8_grinds_3 16 rfl rfl)
theorem dX8_grinds_88 : decode cX8_grinds 88 = .ok (.idiv, 1) := dk_108 (dk_at dksX8_grinds_3 18 rfl rfl)
theorem dX8_grinds_89 : decode cX8_grinds 89 = .ok (.istore 4, 2) := dk_54 4 (dk_at dksX8_grinds_3 19 rfl rfl)
theorem dX8_grinds_91 : decode cX8_grinds 91 = .ok (.aload_n 1, 1) := dk_43 (dk_at dksX8_grinds_3 21 rfl rfl)
theorem dX8_grinds_92 : decode cX8_grinds 92 = .ok (.iconst 0, 1) := dk_3 (dk_at dksX8_grinds_3 22 rfl rfl)
theorem dX8_grinds_93 : decode cX8_grinds 93 = .ok (.iload_n 2, 1) := dk_28 (dk_at dksX8_grinds_3 23 rfl rfl)
theorem dX8_grinds_94 : decode cX8_grinds 94 = .ok (.iadd, 1) := dk_96 (dk_at dksX8_grinds_4 0 rfl rfl)
theorem dX8_grinds_95 : decode cX8_grinds 95 = .ok (.dup2, 1) := dk_92 (dk_at dksX8_grinds_4 1 rfl rfl)
theorem dX8_grinds_96 : decode cX8_grinds 96 = .ok (.iaload, 1) := dk_46 (dk_at dksX8_grinds_4 2 rfl rfl)
theorem dX8_grinds_97 : decode cX8_grinds 97 = .ok (.iload_n 3, 1) := dk_29 (dk_at dksX8_grinds_4 3 rfl rfl)
theorem dX8_grinds_98 : decode cX8_grinds 98 = .ok (.isub, 1) := dk_100 (dk_at dksX8_grinds_4 4 rfl rfl)
theorem dX8_grinds_99 : decode cX8_grinds 99 = .ok (.iastore, 1) := dk_79 (dk_at dksX8_grinds_4 5 rfl rfl)
theorem dX8_grinds_100 : decode cX8_grinds 100 = .ok (.aload_n 1, 1) := dk_43 (dk_at dksX8_grinds_4 6 rfl rfl)
theorem dX8_grinds_101 : decode cX8_grinds 101 = .ok (.iconst 0, 1) := dk_3 (dk_at dksX8_grinds_4 7 rfl rfl)
theorem dX8_grinds_102 : decode cX8_grinds 102 = .ok (.iload_n 2, 1) := dk_28 (dk_at dksX8_grinds_4 8 rfl rfl)
theorem dX8_grinds_103 : decode cX8_grinds 103 = .ok (.iadd, 1) := dk_96 (dk_at dksX8_grinds_4 9 rfl rfl)
theorem dX8_grinds_104 : decode cX8_grinds 104 = .ok (.iconst 1, 1) := dk_4 (dk_at dksX8_grinds_4 10 rfl rfl)
theorem dX8_grinds_105 : decode cX8_grinds 105 = .ok (.iadd, 1) := dk_96 (dk_at dksX8_grinds_4 11 rfl rfl)
theorem dX8_grinds_106 : decode cX8_grinds 106 = .ok (.dup2, 1) := dk_92 (dk_at dksX8_grinds_4 12 rfl rfl)
theorem dX8_grinds_107 : decode cX8_grinds 107 = .ok (.iaload, 1) := dk_46 (dk_at dksX8_grinds_4 13 rfl rfl)
theorem dX8_grinds_108 : decode cX8_grinds 108 = .ok (.iload 4, 2) := dk_21 4 (dk_at dksX8_grinds_4 14 rfl rfl)
theorem dX8_grinds_110 : decode cX8_grinds 110 = .ok (.iadd, 1) := dk_96 (dk_at dksX8_grinds_4 16 rfl rfl)
theorem dX8_grinds_111 : decode cX8_grinds 111 = .ok (.iastore, 1) := dk_79 (dk_at dksX8_grinds_4 17 rfl rfl)
theorem dX8_grinds_112 : decode cX8_grinds 112 = .ok (.aload_n 1, 1) := dk_43 (dk_at dksX8_grinds_4 18 rfl rfl)
theorem dX8_grinds_113 : decode cX8_grinds 113 = .ok (.iconst 0, 1) := dk_3 (dk_at dksX8_grinds_4 19 rfl rfl)
theorem dX8_grinds_114 : decode cX8_grinds 114 = .ok (.iload_n 2, 1) := dk_28 (dk_at dksX8_grinds_4 20 rfl rfl)
theorem dX8_grinds_115 : decode cX8_grinds 115 = .ok (.iconst 2, 1) := dk_5 (dk_at dksX8_grinds_4 21 rfl rfl)
theorem dX8_grinds_116 : decode cX8_grinds 116 = .ok (.iadd, 1) := dk_96 (dk_at dksX8_grinds_4 22 rfl rfl)
theorem dX8_grinds_117 : decode cX8_grinds 117 = .ok (.aload_n 0, 1) := dk_42 (dk_at dksX8_grinds_4 23 rfl rfl)
theorem dX8_grinds_118 : decode cX8_grinds 118 = .ok (.getfield 290, 3) := dk_180 1 34 (dk_at dksX8_grinds_5 0 rfl rfl)
theorem dX8_grinds_121 : decode cX8_grinds 121 = .ok (.getfield 191, 3) := dk_180 0 191 (dk_at dksX8_grinds_5 3 rfl rfl)
theorem dX8_grinds_124 : decode cX8_grinds 124 = .ok (.if_icmp .ge 9, 3) := dk_162 0 9 (dk_at dksX8_grinds_5 6 rfl rfl)
theorem dX8_grinds_127 : decode cX8_grinds 127 = .ok (.iload_n 2, 1) := dk_28 (dk_at dksX8_grinds_5 9 rfl rfl)
theorem dX8_grinds_128 : decode cX8_grinds 128 = .ok (.iconst 2, 1) := dk_5 (dk_at dksX8_grinds_5 10 rfl rfl)
theorem dX8_grinds_129 : decode cX8_grinds 129 = .ok (.iadd, 1) := dk_96 (dk_at dksX8_grinds_5 11 rfl rfl)
theorem dX8_grinds_130 : decode cX8_grinds 130 = .ok (.goto 6, 3) := dk_167 0 6 (dk_at dksX8_grinds_5 12 rfl rfl)
theorem dX8_grinds_133 : decode cX8_grinds 133 = .ok (.iload_n 2, 1) := dk_28 (dk_at dksX8_grinds_5 15 rfl rfl)
theorem dX8_grinds_134 : decode cX8_grinds 134 = .ok (.iconst 1, 1) := dk_4 (dk_at dksX8_grinds_5 16 rfl rfl)
theorem dX8_grinds_135 : decode cX8_grinds 135 = .ok (.iadd, 1) := dk_96 (dk_at dksX8_grinds_5 17 rfl rfl)
theorem dX8_grinds_136 : decode cX8_grinds 136 = .ok (.iadd, 1) := dk_96 (dk_at dksX8_grinds_5 18 rfl rfl)
theorem dX8_grinds_137 : decode cX8_grinds 137 = .ok (.dup2, 1) := dk_92 (dk_at dksX8_grinds_5 19 rfl rfl)
theorem dX8_grinds_138 : decode cX8_grinds 138 = .ok (.iaload, 1) := dk_46 (dk_at dksX8_grinds_5 20 rfl rfl)
theorem dX8_grinds_139 : decode cX8_grinds 139 = .ok (.iload_n 3, 1) := dk_29 (dk_at dksX8_grinds_5 21 rfl rfl)
theorem dX8_grinds_140 : decode cX8_grinds 140 = .ok (.iload 4, 2) := dk_21 4 (dk_at dksX8_grinds_5 22 rfl rfl)
theorem dX8_grinds_142 : decode cX8_grinds 142 = .ok (.isub, 1) := dk_100 (dk_at dksX8_grinds_6 0 rfl rfl)
theorem dX8_grinds_143 : decode cX8_grinds 143 = .ok (.iadd, 1) := dk_96 (dk_at dksX8_grinds_6 1 rfl rfl)
theorem dX8_grinds_144 : decode cX8_grinds 144 = .ok (.iastore, 1) := dk_79 (dk_at dksX8_grinds_6 2 rfl rfl)
theorem dX8_grinds_145 : decode cX8_grinds 145 = .ok (.iinc 2 (-1), 3) := dk_132 2 255 (dk_at dksX8_grinds_6 3 rfl rfl)
theorem dX8_grinds_148 : decode cX8_grinds 148 = .ok (.goto (-102), 3) := dk_167 255 154 (dk_at dksX8_grinds_6 6 rfl rfl)
theorem dX8_grinds_151 : decode cX8_grinds 151 = .ok (.iconst 0, 1) := dk_3 (dk_at dksX8_grinds_6 9 rfl rfl)
theorem dX8_grinds_152 : decode cX8_grinds 152 = .ok (.istore_n 2, 1) := dk_61 (dk_at dksX8_grinds_6 10 rfl rfl)
theorem dX8_grinds_153 : decode cX8_grinds 153 = .ok (.iload_n 2, 1) := dk_28 (dk_at dksX8_grinds_6 11 rfl rfl)
theorem dX8_grinds_154 : decode cX8_grinds 154 = .ok (.aload_n 0, 1) := dk_42 (dk_at dksX8_grinds_6 12 rfl rfl)
theorem dX8_grinds_155 : decode cX8_grinds 155 = .ok (.getfield 290, 3) := dk_180 1 34 (dk_at dksX8_grinds_6 13 rfl rfl)
theorem dX8_grinds_158 : decode cX8_grinds 158 = .ok (.getfield 191, 3) := dk_180 0 191 (dk_at dksX8_grinds_6 16 rfl rfl)
theorem dX8_grinds_161 : decode cX8_grinds 161 = .ok (.if_icmp .ge 82, 3) := dk_162 0 82 (dk_at dksX8_grinds_6 19 rfl rfl)
theorem dX8_grinds_164 : decode cX8_grinds 164 = .ok (.aload_n 1, 1) := dk_43 (dk_at dksX8_grinds_6 22 rfl rfl)
theorem dX8_grinds_165 : decode cX8_grinds 165 = .ok (.iconst 0, 1) := dk_3 (dk_at dksX8_grinds_6 23 rfl rfl)
theorem dX8_grinds_166 : decode cX8_grinds 166 = .ok (.iload_n 2, 1) := dk_28 (dk_at dksX8_grinds_7 0 rfl rfl)
theorem dX8_grinds_167 : decode cX8_grinds 167 = .ok (.iadd, 1) := dk_96 (dk_at dksX8_grinds_7 1 rfl rfl)
theorem dX8_grinds_168 : decode cX8_grinds 168 = .ok (.iaload, 1) := dk_46 (dk_at dksX8_grinds_7 2 rfl rfl)
theorem dX8_grinds_169 : decode cX8_grinds 169 = .ok (.bipush 20, 2) := dk_16 20 (dk_at dksX8_grinds_7 3 rfl rfl)
theorem dX8_grinds_171 : decode cX8_grinds 171 = .ok (.bipush 10, 2) := dk_16 10 (dk_at dksX8_grinds_7 5 rfl rfl)
theorem dX8_grinds_173 : decode cX8_grinds 173 = .ok (.aload_n 1, 1) := dk_43 (dk_at dksX8_grinds_7 7 rfl rfl)
theorem dX8_grinds_174 : decode cX8_grinds 174 = .ok (.bipush 35, 2) := dk_16 35 (dk_at dksX8_grinds_7 8 rfl rfl)
theorem dX8_grinds_176 : decode cX8_grinds 176 = .ok (.iaload, 1) := dk_46 (dk_at dksX8_grinds_7 10 rfl rfl)
theorem dX8_grinds_177 : decode cX8_grinds 177 = .ok (.imul, 1) := dk_104 (dk_at dksX8_grinds_7 11 rfl rfl)
theorem dX8_grinds_178 : decode cX8_grinds 178 = .ok (.iadd, 1) := dk_96 (dk_at dksX8_grinds_7 12 rfl rfl)
theorem dX8_grinds_179 : decode cX8_grinds 179 = .ok (.imul, 1) := dk_104 (dk_at dksX8_grinds_7 13 rfl rfl)
theorem dX8_grinds_180 : decode cX8_grinds 180 = .ok (.bipush 100, 2) := dk_16 100 (dk_at dksX8_grinds_7 14 rfl rfl)
theorem dX8_grinds_182 : decode cX8_grinds 182 = .ok (.idiv, 1) := dk_108 (dk_at dksX8_grinds_7 16 rfl rfl)
theorem dX8_grinds_183 : decode cX8_grinds 183 = .ok (.istore_n 3, 1) := dk_62 (dk_at dksX8_grinds_7 17 rfl rfl)
theorem dX8_grinds_184 : decode cX8_grinds 184 = .ok (.iload_n 3, 1) := dk_29 (dk_at dksX8_grinds_7 18 rfl rfl)
theorem dX8_grinds_185 : decode cX8_grinds 185 = .ok (.aload_n 0, 1) := dk_42 (dk_at dksX8_grinds_7 19 rfl rfl)
theorem dX8_grinds_186 : decode cX8_grinds 186 = .ok (.iload_n 2, 1) := dk_28 (dk_at dksX8_grinds_7 20 rfl rfl)
theorem dX8_grinds_187 : decode cX8_grinds 187 = .ok (.aload_n 1, 1) := dk_43 (dk_at dksX8_grinds_7 21 rfl rfl)
theorem dX8_grinds_188 : decode cX8_grinds 188 = .ok (.bipush 25, 2) := dk_16 25 (dk_at dksX8_grinds_7 22 rfl rfl)
theorem dX8_grinds_190 : decode cX8_grinds 190 = .ok (.iaload, 1) := dk_46 (dk_at dksX8_grinds_8 0 rfl rfl)
theorem dX8_grinds_191 : decode cX8_grinds 191 = .ok (.invokevirtual 320, 3) := dk_182 1 64 (dk_at dksX8_grinds_8 1 rfl rfl)
theorem dX8_grinds_194 : decode cX8_grinds 194 = .ok (.imul, 1) := dk_104 (dk_at dksX8_grinds_8 4 rfl rfl)
theorem dX8_grinds_195 : decode cX8_grinds 195 = .ok (.bipush 100, 2) := dk_16 100 (dk_at dksX8_grinds_8 5 rfl rfl)
theorem dX8_grinds_197 : decode cX8_grinds 197 = .ok (.idiv, 1) := dk_108 (dk_at dksX8_grinds_8 7 rfl rfl)
theorem dX8_grinds_198 : decode cX8_grinds 198 = .ok (.istore 4, 2) := dk_54 4 (dk_at dksX8_grinds_8 8 rfl rfl)
theorem dX8_grinds_200 : decode cX8_grinds 200 = .ok (.aload_n 1, 1) := dk_43 (dk_at dksX8_grinds_8 10 rfl rfl)
theorem dX8_grinds_201 : decode cX8_grinds 201 = .ok (.iconst 0, 1) := dk_3 (dk_at dksX8_grinds_8 11 rfl rfl)
theorem dX8_grinds_202 : decode cX8_grinds 202 = .ok (.iload_n 2, 1) := dk_28 (dk_at dksX8_grinds_8 12 rfl rfl)
theorem dX8_grinds_203 : decode cX8_grinds 203 = .ok (.iadd, 1) := dk_96 (dk_at dksX8_grinds_8 13 rfl rfl)
theorem dX8_grinds_204 : decode cX8_grinds 204 = .ok (.dup2, 1) := dk_92 (dk_at dksX8_grinds_8 14 rfl rfl)
theorem dX8_grinds_205 : decode cX8_grinds 205 = .ok (.iaload, 1) := dk_46 (dk_at dksX8_grinds_8 15 rfl rfl)
theorem dX8_grinds_206 : decode cX8_grinds 206 = .ok (.iload_n 3, 1) := dk_29 (dk_at dksX8_grinds_8 16 rfl rfl)
theorem dX8_grinds_207 : decode cX8_grinds 207 = .ok (.isub, 1) := dk_100 (dk_at dksX8_grinds_8 17 rfl rfl)
theorem dX8_grinds_208 : decode cX8_grinds 208 = .ok (.iastore, 1) := dk_79 (dk_at dksX8_grinds_8 18 rfl rfl)
theorem dX8_grinds_209 : decode cX8_grinds 209 = .ok (.aload_n 1, 1) := dk_43 (dk_at dksX8_grinds_8 19 rfl rfl)
theorem dX8_grinds_210 : decode cX8_grinds 210 = .ok (.bipush 10, 2) := dk_16 10 (dk_at dksX8_grinds_8 20 rfl rfl)
theorem dX8_grinds_212 : decode cX8_grinds 212 = .ok (.iload_n 2, 1) := dk_28 (dk_at dksX8_grinds_8 22 rfl rfl)
theorem dX8_grinds_213 : decode cX8_grinds 213 = .ok (.iadd, 1) := dk_96 (dk_at dksX8_grinds_8 23 rfl rfl)
theorem dX8_grinds_214 : decode cX8_grinds 214 = .ok (.iload 4, 2) := dk_21 4 (dk_at dksX8_grinds_9 0 rfl rfl)
theorem dX8_grinds_216 : decode cX8_grinds 216 = .ok (.iastore, 1) := dk_79 (dk_at dksX8_grinds_9 2 rfl rfl)
theorem dX8_grinds_217 : decode cX8_grinds 217 = .ok (.aload_n 1, 1) := dk_43 (dk_at dksX8_grinds_9 3 rfl rfl)
theorem dX8_grinds_218 : decode cX8_grinds 218 = .ok (.bipush 15, 2) := dk_16 15 (dk_at dksX8_grinds_9 4 rfl rfl)
theorem dX8_grinds_220 : decode cX8_grinds 220 = .ok (.iload_n 2, 1) := dk_28 (dk_at dksX8_grinds_9 6 rfl rfl)
theorem dX8_grinds_221 : decode cX8_grinds 221 = .ok (.iadd, 1) := dk_96 (dk_at dksX8_grinds_9 7 rfl rfl)
theorem dX8_grinds_222 : decode cX8_grinds 222 = .ok (.dup2, 1) := dk_92 (dk_at dksX8_grinds_9 8 rfl rfl)
theorem dX8_grinds_223 : decode cX8_grinds 223 = .ok (.iaload, 1) := dk_46 (dk_at dksX8_grinds_9 9 rfl rfl)
theorem dX8_grinds_224 : decode cX8_grinds 224 = .ok (.iload 4, 2) := dk_21 4 (dk_at dksX8_grinds_9 10 rfl rfl)
theorem dX8_grinds_226 : decode cX8_grinds 226 = .ok (.iadd, 1) := dk_96 (dk_at dksX8_grinds_9 12 rfl rfl)
theorem dX8_grinds_227 : decode cX8_grinds 227 = .ok (.iastore, 1) := dk_79 (dk_at dksX8_grinds_9 13 rfl rfl)
theorem dX8_grinds_228 : decode cX8_grinds 228 = .ok (.aload_n 1, 1) := dk_43 (dk_at dksX8_grinds_9 14 rfl rfl)
theorem dX8_grinds_229 : decode cX8_grinds 229 = .ok (.iconst 5, 1) := dk_8 (dk_at dksX8_grinds_9 15 rfl rfl)
theorem dX8_grinds_230 : decode cX8_grinds 230 = .ok (.iload_n 2, 1) := dk_28 (dk_at dksX8_grinds_9 16 rfl rfl)
theorem dX8_grinds_231 : decode cX8_grinds 231 = .ok (.iadd, 1) := dk_96 (dk_at dksX8_grinds_9 17 rfl rfl)
theorem dX8_grinds_232 : decode cX8_grinds 232 = .ok (.iload_n 3, 1) := dk_29 (dk_at dksX8_grinds_9 18 rfl rfl)
theorem dX8_grinds_233 : decode cX8_grinds 233 = .ok (.iload 4, 2) := dk_21 4 (dk_at dksX8_grinds_9 19 rfl rfl)
theorem dX8_grinds_235 : decode cX8_grinds 235 = .ok (.isub, 1) := dk_100 (dk_at dksX8_grinds_9 21 rfl rfl)
theorem dX8_grinds_236 : decode cX8_grinds 236 = .ok (.iastore, 1) := dk_79 (dk_at dksX8_grinds_9 22 rfl rfl)
theorem dX8_grinds_237 : decode cX8_grinds 237 = .ok (.iinc 2 1, 3) := dk_132 2 1 (dk_at dksX8_grinds_10 0 rfl rfl)
theorem dX8_grinds_240 : decode cX8_grinds 240 = .ok (.goto (-87), 3) := dk_167 255 169 (dk_at dksX8_grinds_10 3 rfl rfl)
theorem dX8_grinds_243 : decode cX8_grinds 243 = .ok (.return_, 1) := dk_177 (dk_at dksX8_grinds_10 6 rfl rfl)
abbrev cX8_effectOf : ByteArray := prog_14_method_38_code
def yX8_effectOf : MethodName := ⟨RX8, "effectOf", "(III)I"⟩
def dkwX8_effectOf_4 : List UInt8 := [180, 1, 34, 180, 1, 20, 29, 46, 96, 108, 172]
abbrev dktX8_effectOf_4 : List UInt8 := dkwX8_effectOf_4 ++ []
def dkwX8_effectOf_3 : List UInt8 := [21, 4, 100, 21, 6, 104, 42, 180, 1, 34, 180, 0, 183, 108, 54, 7, 16, 10, 21, 7, 104, 16, 9, 42]
abbrev dktX8_effectOf_3 : List UInt8 := dkwX8_effectOf_3 ++ dktX8_effectOf_4
def dkwX8_effectOf_2 : List UInt8 := [180, 1, 34, 180, 0, 183, 28, 100, 54, 6, 16, 100, 21, 4, 156, 0, 9, 21, 4, 116, 167, 0, 5]
abbrev dktX8_effectOf_2 : List UInt8 := dkwX8_effectOf_2 ++ dktX8_effectOf_3
def dkwX8_effectOf_1 : List UInt8 := [5, 108, 54, 5, 42, 180, 1, 34, 180, 0, 183, 28, 100, 21, 5, 162, 0, 8, 21, 5, 167, 0, 12, 42]
abbrev dktX8_effectOf_1 : List UInt8 := dkwX8_effectOf_1 ++ dktX8_effectOf_2
def dkwX8_effectOf_0 : List UInt8 := [16, 100, 27, 104, 42, 180, 1, 34, 180, 0, 176, 108, 16, 50, 100, 54, 4, 42, 180, 1, 34, 180, 0, 183]
abbrev dktX8_effectOf_0 : List UInt8 := dkwX8_effectOf_0 ++ dktX8_effectOf_1
theorem dksX8_effectOf_0 : cX8_effectOf.data.toList.drop 0 = dktX8_effectOf_0 := by decide +kernel
theorem dksX8_effectOf_1 : cX8_effectOf.data.toList.drop 24 = dktX8_effectOf_1 := dk_seg dksX8_effectOf_0 24 rfl rfl
theorem dksX8_effectOf_2 : cX8_effectOf.data.toList.drop 48 = dktX8_effectOf_2 := dk_seg dksX8_effectOf_1 24 rfl rfl
theorem dksX8_effectOf_3 : cX8_effectOf.data.toList.drop 71 = dktX8_effectOf_3 := dk_seg dksX8_effectOf_2 23 rfl rfl
theorem dksX8_effectOf_4 : cX8_effectOf.data.toList.drop 95 = dktX8_effectOf_4 := dk_seg dksX8_effectOf_3 24 rfl rfl
theorem dX8_effectOf_0 : decode cX8_effectOf 0 = .ok (.bipush 100, 2) := dk_16 100 (dk_at dksX8_effectOf_0 0 rfl rfl)
theorem dX8_effectOf_2 : decode cX8_effectOf 2 = .ok (.iload_n 1, 1) := dk_27 (dk_at dksX8_effectOf_0 2 rfl rfl)
theorem dX8_effectOf_3 : decode cX8_effectOf 3 = .ok (.imul, 1) := dk_104 (dk_at dksX8_effectOf_0 3 rfl rfl)
theorem dX8_effectOf_4 : decode cX8_effectOf 4 = .ok (.aload_n 0, 1) := dk_42 (dk_at dksX8_effectOf_0 4 rfl rfl)
theorem dX8_effectOf_5 : decode cX8_effectOf 5 = .ok (.getfield 290, 3) := dk_180 1 34 (dk_at dksX8_effectOf_0 5 rfl rfl)
theorem dX8_effectOf_8 : decode cX8_effectOf 8 = .ok (.getfield 176, 3) := dk_180 0 176 (dk_at dksX8_effectOf_0 8 rfl rfl)
theorem dX8_effectOf_11 : decode cX8_effectOf 11 = .ok (.idiv, 1) := dk_108 (dk_at dksX8_effectOf_0 11 rfl rfl)
theorem dX8_effectOf_12 : decode cX8_effectOf 12 = .ok (.bipush 50, 2) := dk_16 50 (dk_at dksX8_effectOf_0 12 rfl rfl)
theorem dX8_effectOf_14 : decode cX8_effectOf 14 = .ok (.isub, 1) := dk_100 (dk_at dksX8_effectOf_0 14 rfl rfl)
theorem dX8_effectOf_15 : decode cX8_effectOf 15 = .ok (.istore 4, 2) := dk_54 4 (dk_at dksX8_effectOf_0 15 rfl rfl)
theorem dX8_effectOf_17 : decode cX8_effectOf 17 = .ok (.aload_n 0, 1) := dk_42 (dk_at dksX8_effectOf_0 17 rfl rfl)
theorem dX8_effectOf_18 : decode cX8_effectOf 18 = .ok (.getfield 290, 3) := dk_180 1 34 (dk_at dksX8_effectOf_0 18 rfl rfl)
theorem dX8_effectOf_21 : decode cX8_effectOf 21 = .ok (.getfield 183, 3) := dk_180 0 183 (dk_at dksX8_effectOf_0 21 rfl rfl)
theorem dX8_effectOf_24 : decode cX8_effectOf 24 = .ok (.iconst 2, 1) := dk_5 (dk_at dksX8_effectOf_1 0 rfl rfl)
theorem dX8_effectOf_25 : decode cX8_effectOf 25 = .ok (.idiv, 1) := dk_108 (dk_at dksX8_effectOf_1 1 rfl rfl)
theorem dX8_effectOf_26 : decode cX8_effectOf 26 = .ok (.istore 5, 2) := dk_54 5 (dk_at dksX8_effectOf_1 2 rfl rfl)
theorem dX8_effectOf_28 : decode cX8_effectOf 28 = .ok (.aload_n 0, 1) := dk_42 (dk_at dksX8_effectOf_1 4 rfl rfl)
theorem dX8_effectOf_29 : decode cX8_effectOf 29 = .ok (.getfield 290, 3) := dk_180 1 34 (dk_at dksX8_effectOf_1 5 rfl rfl)
theorem dX8_effectOf_32 : decode cX8_effectOf 32 = .ok (.getfield 183, 3) := dk_180 0 183 (dk_at dksX8_effectOf_1 8 rfl rfl)
theorem dX8_effectOf_35 : decode cX8_effectOf 35 = .ok (.iload_n 2, 1) := dk_28 (dk_at dksX8_effectOf_1 11 rfl rfl)
theorem dX8_effectOf_36 : decode cX8_effectOf 36 = .ok (.isub, 1) := dk_100 (dk_at dksX8_effectOf_1 12 rfl rfl)
theorem dX8_effectOf_37 : decode cX8_effectOf 37 = .ok (.iload 5, 2) := dk_21 5 (dk_at dksX8_effectOf_1 13 rfl rfl)
theorem dX8_effectOf_39 : decode cX8_effectOf 39 = .ok (.if_icmp .ge 8, 3) := dk_162 0 8 (dk_at dksX8_effectOf_1 15 rfl rfl)
theorem dX8_effectOf_42 : decode cX8_effectOf 42 = .ok (.iload 5, 2) := dk_21 5 (dk_at dksX8_effectOf_1 18 rfl rfl)
theorem dX8_effectOf_44 : decode cX8_effectOf 44 = .ok (.goto 12, 3) := dk_167 0 12 (dk_at dksX8_effectOf_1 20 rfl rfl)
theorem dX8_effectOf_47 : decode cX8_effectOf 47 = .ok (.aload_n 0, 1) := dk_42 (dk_at dksX8_effectOf_1 23 rfl rfl)
theorem dX8_effectOf_48 : decode cX8_effectOf 48 = .ok (.getfield 290, 3) := dk_180 1 34 (dk_at dksX8_effectOf_2 0 rfl rfl)
theorem dX8_effectOf_51 : decode cX8_effectOf 51 = .ok (.getfield 183, 3) := dk_180 0 183 (dk_at dksX8_effectOf_2 3 rfl rfl)
theorem dX8_effectOf_54 : decode cX8_effectOf 54 = .ok (.iload_n 2, 1) := dk_28 (dk_at dksX8_effectOf_2 6 rfl rfl)
theorem dX8_effectOf_55 : decode cX8_effectOf 55 = .ok (.isub, 1) := dk_100 (dk_at dksX8_effectOf_2 7 rfl rfl)
theorem dX8_effectOf_56 : decode cX8_effectOf 56 = .ok (.istore 6, 2) := dk_54 6 (dk_at dksX8_effectOf_2 8 rfl rfl)
theorem dX8_effectOf_58 : decode cX8_effectOf 58 = .ok (.bipush 100, 2) := dk_16 100 (dk_at dksX8_effectOf_2 10 rfl rfl)
theorem dX8_effectOf_60 : decode cX8_effectOf 60 = .ok (.iload 4, 2) := dk_21 4 (dk_at dksX8_effectOf_2 12 rfl rfl)
theorem dX8_effectOf_62 : decode cX8_effectOf 62 = .ok (.ifCond .ge 9, 3) := dk_156 0 9 (dk_at dksX8_effectOf_2 14 rfl rfl)
theorem dX8_effectOf_65 : decode cX8_effectOf 65 = .ok (.iload 4, 2) := dk_21 4 (dk_at dksX8_effectOf_2 17 rfl rfl)
theorem dX8_effectOf_67 : decode cX8_effectOf 67 = .ok (.ineg, 1) := dk_116 (dk_at dksX8_effectOf_2 19 rfl rfl)
theorem dX8_effectOf_68 : decode cX8_effectOf 68 = .ok (.goto 5, 3) := dk_167 0 5 (dk_at dksX8_effectOf_2 20 rfl rfl)
theorem dX8_effectOf_71 : decode cX8_effectOf 71 = .ok (.iload 4, 2) := dk_21 4 (dk_at dksX8_effectOf_3 0 rfl rfl)
theorem dX8_effectOf_73 : decode cX8_effectOf 73 = .ok (.isub, 1) := dk_100 (dk_at dksX8_effectOf_3 2 rfl rfl)
theorem dX8_effectOf_74 : decode cX8_effectOf 74 = .ok (.iload 6, 2) := dk_21 6 (dk_at dksX8_effectOf_3 3 rfl rfl)
theorem dX8_effectOf_76 : decode cX8_effectOf 76 = .ok (.imul, 1) := dk_104 (dk_at dksX8_effectOf_3 5 rfl rfl)
theorem dX8_effectOf_77 : decode cX8_effectOf 77 = .ok (.aload_n 0, 1) := dk_42 (dk_at dksX8_effectOf_3 6 rfl rfl)
theorem dX8_effectOf_78 : decode cX8_effectOf 78 = .ok (.getfield 290, 3) := dk_180 1 34 (dk_at dksX8_effectOf_3 7 rfl rfl)
theorem dX8_effectOf_81 : decode cX8_effectOf 81 = .ok (.getfield 183, 3) := dk_180 0 183 (dk_at dksX8_effectOf_3 10 rfl rfl)
theorem dX8_effectOf_84 : decode cX8_effectOf 84 = .ok (.idiv, 1) := dk_108 (dk_at dksX8_effectOf_3 13 rfl rfl)
theorem dX8_effectOf_85 : decode cX8_effectOf 85 = .ok (.istore 7, 2) := dk_54 7 (dk_at dksX8_effectOf_3 14 rfl rfl)
theorem dX8_effectOf_87 : decode cX8_effectOf 87 = .ok (.bipush 10, 2) := dk_16 10 (dk_at dksX8_effectOf_3 16 rfl rfl)
theorem dX8_effectOf_89 : decode cX8_effectOf 89 = .ok (.iload 7, 2) := dk_21 7 (dk_at dksX8_effectOf_3 18 rfl rfl)
theorem dX8_effectOf_91 : decode cX8_effectOf 91 = .ok (.imul, 1) := dk_104 (dk_at dksX8_effectOf_3 20 rfl rfl)
theorem dX8_effectOf_92 : decode cX8_effectOf 92 = .ok (.bipush 9, 2) := dk_16 9 (dk_at dksX8_effectOf_3 21 rfl rfl)
theorem dX8_effectOf_94 : decode cX8_effectOf 94 = .ok (.aload_n 0, 1) := dk_42 (dk_at dksX8_effectOf_3 23 rfl rfl)
theorem dX8_effectOf_95 : decode cX8_effectOf 95 = .ok (.getfield 290, 3) := dk_180 1 34 (dk_at dksX8_effectOf_4 0 rfl rfl)
theorem dX8_effectOf_98 : decode cX8_effectOf 98 = .ok (.getfield 276, 3) := dk_180 1 20 (dk_at dksX8_effectOf_4 3 rfl rfl)
theorem dX8_effectOf_101 : decode cX8_effectOf 101 = .ok (.iload_n 3, 1) := dk_29 (dk_at dksX8_effectOf_4 6 rfl rfl)
theorem dX8_effectOf_102 : decode cX8_effectOf 102 = .ok (.iaload, 1) := dk_46 (dk_at dksX8_effectOf_4 7 rfl rfl)
theorem dX8_effectOf_103 : decode cX8_effectOf 103 = .ok (.iadd, 1) := dk_96 (dk_at dksX8_effectOf_4 8 rfl rfl)
theorem dX8_effectOf_104 : decode cX8_effectOf 104 = .ok (.idiv, 1) := dk_108 (dk_at dksX8_effectOf_4 9 rfl rfl)
theorem dX8_effectOf_105 : decode cX8_effectOf 105 = .ok (.ireturn, 1) := dk_172 (dk_at dksX8_effectOf_4 10 rfl rfl)
abbrev cX8_passes : ByteArray := prog_14_method_39_code
def yX8_passes : MethodName := ⟨RX8, "passes", "(II)I"⟩
def dkwX8_passes_1 : List UInt8 := [16, 100, 164, 0, 8, 16, 100, 167, 0, 12, 28, 42, 180, 1, 34, 180, 0, 248, 104, 172]
abbrev dktX8_passes_1 : List UInt8 := dkwX8_passes_1 ++ []
def dkwX8_passes_0 : List UInt8 := [27, 42, 180, 1, 34, 180, 0, 181, 161, 0, 6, 16, 100, 172, 28, 42, 180, 1, 34, 180, 0, 248, 104]
abbrev dktX8_passes_0 : List UInt8 := dkwX8_passes_0 ++ dktX8_passes_1
theorem dksX8_passes_0 : cX8_passes.data.toList.drop 0 = dktX8_passes_0 := by decide +kernel
theorem dksX8_passes_1 : cX8_passes.data.toList.drop 23 = dktX8_passes_1 := dk_seg dksX8_passes_0 23 rfl rfl
theorem dX8_passes_0 : decode cX8_passes 0 = .ok (.iload_n 1, 1) := dk_27 (dk_at dksX8_passes_0 0 rfl rfl)
theorem dX8_passes_1 : decode cX8_passes 1 = .ok (.aload_n 0, 1) := dk_42 (dk_at dksX8_passes_0 1 rfl rfl)
theorem dX8_passes_2 : decode cX8_passes 2 = .ok (.getfield 290, 3) := dk_180 1 34 (dk_at dksX8_passes_0 2 rfl rfl)
theorem dX8_passes_5 : decode cX8_passes 5 = .ok (.getfield 181, 3) := dk_180 0 181 (dk_at dksX8_passes_0 5 rfl rfl)
theorem dX8_passes_8 : decode cX8_passes 8 = .ok (.if_icmp .lt 6, 3) := dk_161 0 6 (dk_at dksX8_passes_0 8 rfl rfl)
theorem dX8_passes_11 : decode cX8_passes 11 = .ok (.bipush 100, 2) := dk_16 100 (dk_at dksX8_passes_0 11 rfl rfl)
theorem dX8_passes_13 : decode cX8_passes 13 = .ok (.ireturn, 1) := dk_172 (dk_at dksX8_passes_0 13 rfl rfl)
theorem dX8_passes_14 : decode cX8_passes 14 = .ok (.iload_n 2, 1) := dk_28 (dk_at dksX8_passes_0 14 rfl rfl)
theorem dX8_passes_15 : decode cX8_passes 15 = .ok (.aload_n 0, 1) := dk_42 (dk_at dksX8_passes_0 15 rfl rfl)
theorem dX8_passes_16 : decode cX8_passes 16 = .ok (.getfield 290, 3) := dk_180 1 34 (dk_at dksX8_passes_0 16 rfl rfl)
theorem dX8_passes_19 : decode cX8_passes 19 = .ok (.getfield 248, 3) := dk_180 0 248 (dk_at dksX8_passes_0 19 rfl rfl)
theorem dX8_passes_22 : decode cX8_passes 22 = .ok (.imul, 1) := dk_104 (dk_at dksX8_passes_0 22 rfl rfl)
theorem dX8_passes_23 : decode cX8_passes 23 = .ok (.bipush 100, 2) := dk_16 100 (dk_at dksX8_passes_1 0 rfl rfl)
theorem dX8_passes_25 : decode cX8_passes 25 = .ok (.if_icmp .le 8, 3) := dk_164 0 8 (dk_at dksX8_passes_1 2 rfl rfl)
theorem dX8_passes_28 : decode cX8_passes 28 = .ok (.bipush 100, 2) := dk_16 100 (dk_at dksX8_passes_1 5 rfl rfl)
theorem dX8_passes_30 : decode cX8_passes 30 = .ok (.goto 12, 3) := dk_167 0 12 (dk_at dksX8_passes_1 7 rfl rfl)
theorem dX8_passes_33 : decode cX8_passes 33 = .ok (.iload_n 2, 1) := dk_28 (dk_at dksX8_passes_1 10 rfl rfl)
theorem dX8_passes_34 : decode cX8_passes 34 = .ok (.aload_n 0, 1) := dk_42 (dk_at dksX8_passes_1 11 rfl rfl)
theorem dX8_passes_35 : decode cX8_passes 35 = .ok (.getfield 290, 3) := dk_180 1 34 (dk_at dksX8_passes_1 12 rfl rfl)
theorem dX8_passes_38 : decode cX8_passes 38 = .ok (.getfield 248, 3) := dk_180 0 248 (dk_at dksX8_passes_1 15 rfl rfl)
theorem dX8_passes_41 : decode cX8_passes 41 = .ok (.imul, 1) := dk_104 (dk_at dksX8_passes_1 18 rfl rfl)
theorem dX8_passes_42 : decode cX8_passes 42 = .ok (.ireturn, 1) := dk_172 (dk_at dksX8_passes_1 19 rfl rfl)
abbrev cX8_digs : ByteArray := prog_14_method_37_code
def yX8_digs : MethodName := ⟨RX8, "digs", "([I)V"⟩
def dkwX8_digs_3 : List UInt8 := [167, 255, 188, 177]
abbrev dktX8_digs_3 : List UInt8 := dkwX8_digs_3 ++ []
def dkwX8_digs_2 : List UInt8 := [96, 62, 43, 3, 28, 96, 92, 46, 29, 100, 79, 43, 16, 21, 92, 46, 29, 96, 79, 132, 2, 1]
abbrev dktX8_digs_2 : List UInt8 := dkwX8_digs_2 ++ dktX8_digs_3
def dkwX8_digs_1 : List UInt8 := [3, 28, 96, 46, 164, 0, 11, 43, 3, 28, 96, 46, 167, 0, 13, 43, 3, 28, 96, 46, 16, 10, 108, 4]
abbrev dktX8_digs_1 : List UInt8 := dkwX8_digs_1 ++ dktX8_digs_2
def dkwX8_digs_0 : List UInt8 := [3, 61, 28, 42, 180, 1, 34, 180, 0, 191, 162, 0, 63, 43, 3, 28, 96, 46, 16, 10, 108, 4, 96, 43]
abbrev dktX8_digs_0 : List UInt8 := dkwX8_digs_0 ++ dktX8_digs_1
theorem dksX8_digs_0 : cX8_digs.data.toList.drop 0 = dktX8_digs_0 := by decide +kernel
theorem dksX8_digs_1 : cX8_digs.data.toList.drop 24 = dktX8_digs_1 := dk_seg dksX8_digs_0 24 rfl rfl
theorem dksX8_digs_2 : cX8_digs.data.toList.drop 48 = dktX8_digs_2 := dk_seg dksX8_digs_1 24 rfl rfl
theorem dksX8_digs_3 : cX8_digs.data.toList.drop 70 = dktX8_digs_3 := dk_seg dksX8_digs_2 22 rfl rfl
theorem dX8_digs_0 : decode cX8_digs 0 = .ok (.iconst 0, 1) := dk_3 (dk_at dksX8_digs_0 0 rfl rfl)
theorem dX8_digs_1 : decode cX8_digs 1 = .ok (.istore_n 2, 1) := dk_61 (dk_at dksX8_digs_0 1 rfl rfl)
theorem dX8_digs_2 : decode cX8_digs 2 = .ok (.iload_n 2, 1) := dk_28 (dk_at dksX8_digs_0 2 rfl rfl)
theorem dX8_digs_3 : decode cX8_digs 3 = .ok (.aload_n 0, 1) := dk_42 (dk_at dksX8_digs_0 3 rfl rfl)
theorem dX8_digs_4 : decode cX8_digs 4 = .ok (.getfield 290, 3) := dk_180 1 34 (dk_at dksX8_digs_0 4 rfl rfl)
theorem dX8_digs_7 : decode cX8_digs 7 = .ok (.getfield 191, 3) := dk_180 0 191 (dk_at dksX8_digs_0 7 rfl rfl)
theorem dX8_digs_10 : decode cX8_digs 10 = .ok (.if_icmp .ge 63, 3) := dk_162 0 63 (dk_at dksX8_digs_0 10 rfl rfl)
theorem dX8_digs_13 : decode cX8_digs 13 = .ok (.aload_n 1, 1) := dk_43 (dk_at dksX8_digs_0 13 rfl rfl)
theorem dX8_digs_14 : decode cX8_digs 14 = .ok (.iconst 0, 1) := dk_3 (dk_at dksX8_digs_0 14 rfl rfl)
theorem dX8_digs_15 : decode cX8_digs 15 = .ok (.iload_n 2, 1) := dk_28 (dk_at dksX8_digs_0 15 rfl rfl)
theorem dX8_digs_16 : decode cX8_digs 16 = .ok (.iadd, 1) := dk_96 (dk_at dksX8_digs_0 16 rfl rfl)
theorem dX8_digs_17 : decode cX8_digs 17 = .ok (.iaload, 1) := dk_46 (dk_at dksX8_digs_0 17 rfl rfl)
theorem dX8_digs_18 : decode cX8_digs 18 = .ok (.bipush 10, 2) := dk_16 10 (dk_at dksX8_digs_0 18 rfl rfl)
theorem dX8_digs_20 : decode cX8_digs 20 = .ok (.idiv, 1) := dk_108 (dk_at dksX8_digs_0 20 rfl rfl)
theorem dX8_digs_21 : decode cX8_digs 21 = .ok (.iconst 1, 1) := dk_4 (dk_at dksX8_digs_0 21 rfl rfl)
theorem dX8_digs_22 : decode cX8_digs 22 = .ok (.iadd, 1) := dk_96 (dk_at dksX8_digs_0 22 rfl rfl)
theorem dX8_digs_23 : decode cX8_digs 23 = .ok (.aload_n 1, 1) := dk_43 (dk_at dksX8_digs_0 23 rfl rfl)
theorem dX8_digs_24 : decode cX8_digs 24 = .ok (.iconst 0, 1) := dk_3 (dk_at dksX8_digs_1 0 rfl rfl)
theorem dX8_digs_25 : decode cX8_digs 25 = .ok (.iload_n 2, 1) := dk_28 (dk_at dksX8_digs_1 1 rfl rfl)
theorem dX8_digs_26 : decode cX8_digs 26 = .ok (.iadd, 1) := dk_96 (dk_at dksX8_digs_1 2 rfl rfl)
theorem dX8_digs_27 : decode cX8_digs 27 = .ok (.iaload, 1) := dk_46 (dk_at dksX8_digs_1 3 rfl rfl)
theorem dX8_digs_28 : decode cX8_digs 28 = .ok (.if_icmp .le 11, 3) := dk_164 0 11 (dk_at dksX8_digs_1 4 rfl rfl)
theorem dX8_digs_31 : decode cX8_digs 31 = .ok (.aload_n 1, 1) := dk_43 (dk_at dksX8_digs_1 7 rfl rfl)
theorem dX8_digs_32 : decode cX8_digs 32 = .ok (.iconst 0, 1) := dk_3 (dk_at dksX8_digs_1 8 rfl rfl)
theorem dX8_digs_33 : decode cX8_digs 33 = .ok (.iload_n 2, 1) := dk_28 (dk_at dksX8_digs_1 9 rfl rfl)
theorem dX8_digs_34 : decode cX8_digs 34 = .ok (.iadd, 1) := dk_96 (dk_at dksX8_digs_1 10 rfl rfl)
theorem dX8_digs_35 : decode cX8_digs 35 = .ok (.iaload, 1) := dk_46 (dk_at dksX8_digs_1 11 rfl rfl)
theorem dX8_digs_36 : decode cX8_digs 36 = .ok (.goto 13, 3) := dk_167 0 13 (dk_at dksX8_digs_1 12 rfl rfl)
theorem dX8_digs_39 : decode cX8_digs 39 = .ok (.aload_n 1, 1) := dk_43 (dk_at dksX8_digs_1 15 rfl rfl)
theorem dX8_digs_40 : decode cX8_digs 40 = .ok (.iconst 0, 1) := dk_3 (dk_at dksX8_digs_1 16 rfl rfl)
theorem dX8_digs_41 : decode cX8_digs 41 = .ok (.iload_n 2, 1) := dk_28 (dk_at dksX8_digs_1 17 rfl rfl)
theorem dX8_digs_42 : decode cX8_digs 42 = .ok (.iadd, 1) := dk_96 (dk_at dksX8_digs_1 18 rfl rfl)
theorem dX8_digs_43 : decode cX8_digs 43 = .ok (.iaload, 1) := dk_46 (dk_at dksX8_digs_1 19 rfl rfl)
theorem dX8_digs_44 : decode cX8_digs 44 = .ok (.bipush 10, 2) := dk_16 10 (dk_at dksX8_digs_1 20 rfl rfl)
theorem dX8_digs_46 : decode cX8_digs 46 = .ok (.idiv, 1) := dk_108 (dk_at dksX8_digs_1 22 rfl rfl)
theorem dX8_digs_47 : decode cX8_digs 47 = .ok (.iconst 1, 1) := dk_4 (dk_at dksX8_digs_1 23 rfl rfl)
theorem dX8_digs_48 : decode cX8_digs 48 = .ok (.iadd, 1) := dk_96 (dk_at dksX8_digs_2 0 rfl rfl)
theorem dX8_digs_49 : decode cX8_digs 49 = .ok (.istore_n 3, 1) := dk_62 (dk_at dksX8_digs_2 1 rfl rfl)
theorem dX8_digs_50 : decode cX8_digs 50 = .ok (.aload_n 1, 1) := dk_43 (dk_at dksX8_digs_2 2 rfl rfl)
theorem dX8_digs_51 : decode cX8_digs 51 = .ok (.iconst 0, 1) := dk_3 (dk_at dksX8_digs_2 3 rfl rfl)
theorem dX8_digs_52 : decode cX8_digs 52 = .ok (.iload_n 2, 1) := dk_28 (dk_at dksX8_digs_2 4 rfl rfl)
theorem dX8_digs_53 : decode cX8_digs 53 = .ok (.iadd, 1) := dk_96 (dk_at dksX8_digs_2 5 rfl rfl)
theorem dX8_digs_54 : decode cX8_digs 54 = .ok (.dup2, 1) := dk_92 (dk_at dksX8_digs_2 6 rfl rfl)
theorem dX8_digs_55 : decode cX8_digs 55 = .ok (.iaload, 1) := dk_46 (dk_at dksX8_digs_2 7 rfl rfl)
theorem dX8_digs_56 : decode cX8_digs 56 = .ok (.iload_n 3, 1) := dk_29 (dk_at dksX8_digs_2 8 rfl rfl)
theorem dX8_digs_57 : decode cX8_digs 57 = .ok (.isub, 1) := dk_100 (dk_at dksX8_digs_2 9 rfl rfl)
theorem dX8_digs_58 : decode cX8_digs 58 = .ok (.iastore, 1) := dk_79 (dk_at dksX8_digs_2 10 rfl rfl)
theorem dX8_digs_59 : decode cX8_digs 59 = .ok (.aload_n 1, 1) := dk_43 (dk_at dksX8_digs_2 11 rfl rfl)
theorem dX8_digs_60 : decode cX8_digs 60 = .ok (.bipush 21, 2) := dk_16 21 (dk_at dksX8_digs_2 12 rfl rfl)
theorem dX8_digs_62 : decode cX8_digs 62 = .ok (.dup2, 1) := dk_92 (dk_at dksX8_digs_2 14 rfl rfl)
theorem dX8_digs_63 : decode cX8_digs 63 = .ok (.iaload, 1) := dk_46 (dk_at dksX8_digs_2 15 rfl rfl)
theorem dX8_digs_64 : decode cX8_digs 64 = .ok (.iload_n 3, 1) := dk_29 (dk_at dksX8_digs_2 16 rfl rfl)
theorem dX8_digs_65 : decode cX8_digs 65 = .ok (.iadd, 1) := dk_96 (dk_at dksX8_digs_2 17 rfl rfl)
theorem dX8_digs_66 : decode cX8_digs 66 = .ok (.iastore, 1) := dk_79 (dk_at dksX8_digs_2 18 rfl rfl)
theorem dX8_digs_67 : decode cX8_digs 67 = .ok (.iinc 2 1, 3) := dk_132 2 1 (dk_at dksX8_digs_2 19 rfl rfl)
theorem dX8_digs_70 : decode cX8_digs 70 = .ok (.goto (-68), 3) := dk_167 255 188 (dk_at dksX8_digs_3 0 rfl rfl)
theorem dX8_digs_73 : decode cX8_digs 73 = .ok (.return_, 1) := dk_177 (dk_at dksX8_digs_3 3 rfl rfl)
