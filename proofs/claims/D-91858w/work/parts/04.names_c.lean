/-! RoarMill -/
set_option maxRecDepth 100000
def RX1 : String := "RoarMill"
def TX1 : u_T := fun k => match k with
  | 0 => ("RoarMill", "tape", "[B", true)
  | 1 => ("RoarMill", "taped", "I", false)
  | 2 => ("RoarMill", "reader", "LRoarMill$Reader;", true)
  | 3 => ("RoarMill", "works", "LRoarMill$Works;", false)
  | 4 => ("RoarMill", "trouble", "I", false)
  | 5 => ("RoarMill", "fault", "I", false)
  | 6 => ("RoarMill", "where", "I", false)
  | 7 => ("RoarMill", "state", "LRoarMill$State;", true)
  | 8 => ("RoarMill", "other", "LRoarMill$State;", true)
  | 9 => ("RoarMill", "settings", "LRoarMill$Settings;", true)
  | 10 => ("RoarMill", "tried", "LRoarMill$Settings;", true)
  | 11 => ("RoarMill", "program", "[LRoarMill$Settings;", true)
  | 12 => ("RoarMill", "stood", "[I", true)
  | 13 => ("RoarMill", "stoodMany", "I", false)
  | 14 => ("RoarMill", "seenHour", "[I", true)
  | 15 => ("RoarMill", "seenWhat", "[I", true)
  | 16 => ("RoarMill", "seenValue", "[I", true)
  | 17 => ("RoarMill", "seenOff", "[I", true)
  | 18 => ("RoarMill", "seenMany", "I", false)
  | 19 => ("RoarMill", "guesses", "[I", true)
  | 20 => ("RoarMill", "planStates", "[LRoarMill$State;", true)
  | 21 => ("RoarMill", "rates", "[I", true)
  | 22 => ("RoarMill", "bestRates", "[I", true)
  | 23 => ("RoarMill", "plannedMany", "I", false)
  | 24 => ("RoarMill", "bestCost", "J", false)
  | 25 => ("RoarMill", "planned", "[I", true)
  | 26 => ("RoarMill", "before", "LRoarMill$Row;", true)
  | 27 => ("RoarMill", "after", "LRoarMill$Row;", true)
  | _ => ("RoarMill", "marked", "LRoarMill$Led;", true)
def tyX1 : Nat → FieldType := fun k => match k with
  | 0 => .array .byte
  | 1 => .int
  | 2 => .object "RoarMill$Reader"
  | 3 => .object "RoarMill$Works"
  | 4 => .int
  | 5 => .int
  | 6 => .int
  | 7 => .object "RoarMill$State"
  | 8 => .object "RoarMill$State"
  | 9 => .object "RoarMill$Settings"
  | 10 => .object "RoarMill$Settings"
  | 11 => .array (.object "RoarMill$Settings")
  | 12 => .array .int
  | 13 => .int
  | 14 => .array .int
  | 15 => .array .int
  | 16 => .array .int
  | 17 => .array .int
  | 18 => .int
  | 19 => .array .int
  | 20 => .array (.object "RoarMill$State")
  | 21 => .array .int
  | 22 => .array .int
  | 23 => .int
  | 24 => .long
  | 25 => .array .int
  | 26 => .object "RoarMill$Row"
  | 27 => .object "RoarMill$Row"
  | _ => .object "RoarMill$Led"
abbrev wsX10 : List Cond := u_ws RX1 TX1 29
set_option maxRecDepth 100000 in
theorem nmX1 : ∀ a, a < 29 → ∀ b, b < 29 → a ≠ b → (TX1 a).2.1 ≠ (TX1 b).2.1 := by decide +kernel
set_option maxRecDepth 100000 in
theorem tyX1_ok : ∀ k, k < 29 → parseFieldDescriptor (TX1 k).2.2.1 = some (tyX1 k) := by decide +kernel
abbrev cX1_init : ByteArray := prog_1_method_2_code
def yX1_init : MethodName := ⟨RX1, "<init>", "()V"⟩
def dkwX1_init_10 : List UInt8 := [162, 0, 22, 42, 180, 0, 69, 27, 187, 0, 26, 89, 183, 0, 28, 83, 132, 1, 1, 167, 255, 235, 177]
abbrev dktX1_init_10 : List UInt8 := dkwX1_init_10 ++ []
def dkwX1_init_9 : List UInt8 := [180, 0, 46, 27, 187, 0, 36, 89, 183, 0, 38, 83, 132, 1, 1, 167, 255, 234, 3, 60, 27, 8]
abbrev dktX1_init_9 : List UInt8 := dkwX1_init_9 ++ dktX1_init_10
def dkwX1_init_8 : List UInt8 := [181, 0, 89, 42, 187, 0, 92, 89, 183, 0, 94, 181, 0, 95, 3, 60, 27, 16, 12, 162, 0, 22, 42]
abbrev dktX1_init_8 : List UInt8 := dkwX1_init_8 ++ dktX1_init_9
def dkwX1_init_7 : List UInt8 := [181, 0, 79, 42, 187, 0, 82, 89, 183, 0, 84, 181, 0, 85, 42, 187, 0, 82, 89, 183, 0, 84]
abbrev dktX1_init_7 : List UInt8 := dkwX1_init_7 ++ dktX1_init_8
def dkwX1_init_6 : List UInt8 := [189, 0, 26, 181, 0, 69, 42, 8, 188, 10, 181, 0, 73, 42, 8, 188, 10, 181, 0, 76, 42, 8, 188, 10]
abbrev dktX1_init_6 : List UInt8 := dkwX1_init_6 ++ dktX1_init_7
def dkwX1_init_5 : List UInt8 := [188, 10, 181, 0, 60, 42, 16, 24, 188, 10, 181, 0, 63, 42, 17, 32, 208, 188, 10, 181, 0, 66, 42, 8]
abbrev dktX1_init_5 : List UInt8 := dkwX1_init_5 ++ dktX1_init_6
def dkwX1_init_4 : List UInt8 := [188, 10, 181, 0, 50, 42, 16, 24, 188, 10, 181, 0, 54, 42, 16, 24, 188, 10, 181, 0, 57, 42, 16, 24]
abbrev dktX1_init_4 : List UInt8 := dkwX1_init_4 ++ dktX1_init_5
def dkwX1_init_3 : List UInt8 := [187, 0, 36, 89, 183, 0, 38, 181, 0, 43, 42, 16, 12, 189, 0, 36, 181, 0, 46, 42, 17, 0, 240]
abbrev dktX1_init_3 : List UInt8 := dkwX1_init_3 ++ dktX1_init_4
def dkwX1_init_2 : List UInt8 := [187, 0, 26, 89, 183, 0, 28, 181, 0, 33, 42, 187, 0, 36, 89, 183, 0, 38, 181, 0, 39, 42]
abbrev dktX1_init_2 : List UInt8 := dkwX1_init_2 ++ dktX1_init_3
def dkwX1_init_1 : List UInt8 := [183, 0, 15, 181, 0, 18, 42, 2, 181, 0, 22, 42, 187, 0, 26, 89, 183, 0, 28, 181, 0, 29, 42]
abbrev dktX1_init_1 : List UInt8 := dkwX1_init_1 ++ dktX1_init_2
def dkwX1_init_0 : List UInt8 := [42, 183, 0, 1, 42, 17, 2, 188, 188, 8, 181, 0, 9, 42, 187, 0, 13, 89, 42, 180, 0, 9]
abbrev dktX1_init_0 : List UInt8 := dkwX1_init_0 ++ dktX1_init_1
theorem dksX1_init_0 : cX1_init.data.toList.drop 0 = dktX1_init_0 := by decide +kernel
theorem dksX1_init_1 : cX1_init.data.toList.drop 22 = dktX1_init_1 := dk_seg dksX1_init_0 22 rfl rfl
theorem dksX1_init_2 : cX1_init.data.toList.drop 45 = dktX1_init_2 := dk_seg dksX1_init_1 23 rfl rfl
theorem dksX1_init_3 : cX1_init.data.toList.drop 67 = dktX1_init_3 := dk_seg dksX1_init_2 22 rfl rfl
theorem dksX1_init_4 : cX1_init.data.toList.drop 90 = dktX1_init_4 := dk_seg dksX1_init_3 23 rfl rfl
theorem dksX1_init_5 : cX1_init.data.toList.drop 114 = dktX1_init_5 := dk_seg dksX1_init_4 24 rfl rfl
theorem dksX1_init_6 : cX1_init.data.toList.drop 138 = dktX1_init_6 := dk_seg dksX1_init_5 24 rfl rfl
theorem dksX1_init_7 : cX1_init.data.toList.drop 162 = dktX1_init_7 := dk_seg dksX1_init_6 24 rfl rfl
theorem dksX1_init_8 : cX1_init.data.toList.drop 184 = dktX1_init_8 := dk_seg dksX1_init_7 22 rfl rfl
theorem dksX1_init_9 : cX1_init.data.toList.drop 207 = dktX1_init_9 := dk_seg dksX1_init_8 23 rfl rfl
theorem dksX1_init_10 : cX1_init.data.toList.drop 229 = dktX1_init_10 := dk_seg dksX1_init_9 22 rfl rfl
theorem dX1_init_0 : decode cX1_init 0 = .ok (.aload_n 0, 1) := dk_42 (dk_at dksX1_init_0 0 rfl rfl)
theorem dX1_init_1 : decode cX1_init 1 = .ok (.invokespecial 1, 3) := dk_183 0 1 (dk_at dksX1_init_0 1 rfl rfl)
theorem dX1_init_4 : decode cX1_init 4 = .ok (.aload_n 0, 1) := dk_42 (dk_at dksX1_init_0 4 rfl rfl)
theorem dX1_init_5 : decode cX1_init 5 = .ok (.sipush 700, 3) := dk_17 2 188 (dk_at dksX1_init_0 5 rfl rfl)
theorem dX1_init_8 : decode cX1_init 8 = .ok (.newarray .byte, 2) := dk_188_8 (dk_at dksX1_init_0 8 rfl rfl)
theorem dX1_init_10 : decode cX1_init 10 = .ok (.putfield 9, 3) := dk_181 0 9 (dk_at dksX1_init_0 10 rfl rfl)
theorem dX1_init_13 : decode cX1_init 13 = .ok (.aload_n 0, 1) := dk_42 (dk_at dksX1_init_0 13 rfl rfl)
theorem dX1_init_14 : decode cX1_init 14 = .ok (.new 13, 3) := dk_187 0 13 (dk_at dksX1_init_0 14 rfl rfl)
theorem dX1_init_17 : decode cX1_init 17 = .ok (.dup, 1) := dk_89 (dk_at dksX1_init_0 17 rfl rfl)
theorem dX1_init_18 : decode cX1_init 18 = .ok (.aload_n 0, 1) := dk_42 (dk_at dksX1_init_0 18 rfl rfl)
theorem dX1_init_19 : decode cX1_init 19 = .ok (.getfield 9, 3) := dk_180 0 9 (dk_at dksX1_init_0 19 rfl rfl)
theorem dX1_init_22 : decode cX1_init 22 = .ok (.invokespecial 15, 3) := dk_183 0 15 (dk_at dksX1_init_1 0 rfl rfl)
theorem dX1_init_25 : decode cX1_init 25 = .ok (.putfield 18, 3) := dk_181 0 18 (dk_at dksX1_init_1 3 rfl rfl)
theorem dX1_init_28 : decode cX1_init 28 = .ok (.aload_n 0, 1) := dk_42 (dk_at dksX1_init_1 6 rfl rfl)
theorem dX1_init_29 : decode cX1_init 29 = .ok (.iconst (-1), 1) := dk_2 (dk_at dksX1_init_1 7 rfl rfl)
theorem dX1_init_30 : decode cX1_init 30 = .ok (.putfield 22, 3) := dk_181 0 22 (dk_at dksX1_init_1 8 rfl rfl)
theorem dX1_init_33 : decode cX1_init 33 = .ok (.aload_n 0, 1) := dk_42 (dk_at dksX1_init_1 11 rfl rfl)
theorem dX1_init_34 : decode cX1_init 34 = .ok (.new 26, 3) := dk_187 0 26 (dk_at dksX1_init_1 12 rfl rfl)
theorem dX1_init_37 : decode cX1_init 37 = .ok (.dup, 1) := dk_89 (dk_at dksX1_init_1 15 rfl rfl)
theorem dX1_init_38 : decode cX1_init 38 = .ok (.invokespecial 28, 3) := dk_183 0 28 (dk_at dksX1_init_1 16 rfl rfl)
theorem dX1_init_41 : decode cX1_init 41 = .ok (.putfield 29, 3) := dk_181 0 29 (dk_at dksX1_init_1 19 rfl rfl)
theorem dX1_init_44 : decode cX1_init 44 = .ok (.aload_n 0, 1) := dk_42 (dk_at dksX1_init_1 22 rfl rfl)
theorem dX1_init_45 : decode cX1_init 45 = .ok (.new 26, 3) := dk_187 0 26 (dk_at dksX1_init_2 0 rfl rfl)
theorem dX1_init_48 : decode cX1_init 48 = .ok (.dup, 1) := dk_89 (dk_at dksX1_init_2 3 rfl rfl)
theorem dX1_init_49 : decode cX1_init 49 = .ok (.invokespecial 28, 3) := dk_183 0 28 (dk_at dksX1_init_2 4 rfl rfl)
theorem dX1_init_52 : decode cX1_init 52 = .ok (.putfield 33, 3) := dk_181 0 33 (dk_at dksX1_init_2 7 rfl rfl)
theorem dX1_init_55 : decode cX1_init 55 = .ok (.aload_n 0, 1) := dk_42 (dk_at dksX1_init_2 10 rfl rfl)
theorem dX1_init_56 : decode cX1_init 56 = .ok (.new 36, 3) := dk_187 0 36 (dk_at dksX1_init_2 11 rfl rfl)
theorem dX1_init_59 : decode cX1_init 59 = .ok (.dup, 1) := dk_89 (dk_at dksX1_init_2 14 rfl rfl)
theorem dX1_init_60 : decode cX1_init 60 = .ok (.invokespecial 38, 3) := dk_183 0 38 (dk_at dksX1_init_2 15 rfl rfl)
theorem dX1_init_63 : decode cX1_init 63 = .ok (.putfield 39, 3) := dk_181 0 39 (dk_at dksX1_init_2 18 rfl rfl)
theorem dX1_init_66 : decode cX1_init 66 = .ok (.aload_n 0, 1) := dk_42 (dk_at dksX1_init_2 21 rfl rfl)
theorem dX1_init_67 : decode cX1_init 67 = .ok (.new 36, 3) := dk_187 0 36 (dk_at dksX1_init_3 0 rfl rfl)
theorem dX1_init_70 : decode cX1_init 70 = .ok (.dup, 1) := dk_89 (dk_at dksX1_init_3 3 rfl rfl)
theorem dX1_init_71 : decode cX1_init 71 = .ok (.invokespecial 38, 3) := dk_183 0 38 (dk_at dksX1_init_3 4 rfl rfl)
theorem dX1_init_74 : decode cX1_init 74 = .ok (.putfield 43, 3) := dk_181 0 43 (dk_at dksX1_init_3 7 rfl rfl)
theorem dX1_init_77 : decode cX1_init 77 = .ok (.aload_n 0, 1) := dk_42 (dk_at dksX1_init_3 10 rfl rfl)
theorem dX1_init_78 : decode cX1_init 78 = .ok (.bipush 12, 2) := dk_16 12 (dk_at dksX1_init_3 11 rfl rfl)
theorem dX1_init_80 : decode cX1_init 80 = .ok (.anewarray 36, 3) := dk_189 0 36 (dk_at dksX1_init_3 13 rfl rfl)
theorem dX1_init_83 : decode cX1_init 83 = .ok (.putfield 46, 3) := dk_181 0 46 (dk_at dksX1_init_3 16 rfl rfl)
theorem dX1_init_86 : decode cX1_init 86 = .ok (.aload_n 0, 1) := dk_42 (dk_at dksX1_init_3 19 rfl rfl)
theorem dX1_init_87 : decode cX1_init 87 = .ok (.sipush 240, 3) := dk_17 0 240 (dk_at dksX1_init_3 20 rfl rfl)
theorem dX1_init_90 : decode cX1_init 90 = .ok (.newarray .int, 2) := dk_188_10 (dk_at dksX1_init_4 0 rfl rfl)
theorem dX1_init_92 : decode cX1_init 92 = .ok (.putfield 50, 3) := dk_181 0 50 (dk_at dksX1_init_4 2 rfl rfl)
theorem dX1_init_95 : decode cX1_init 95 = .ok (.aload_n 0, 1) := dk_42 (dk_at dksX1_init_4 5 rfl rfl)
theorem dX1_init_96 : decode cX1_init 96 = .ok (.bipush 24, 2) := dk_16 24 (dk_at dksX1_init_4 6 rfl rfl)
theorem dX1_init_98 : decode cX1_init 98 = .ok (.newarray .int, 2) := dk_188_10 (dk_at dksX1_init_4 8 rfl rfl)
theorem dX1_init_100 : decode cX1_init 100 = .ok (.putfield 54, 3) := dk_181 0 54 (dk_at dksX1_init_4 10 rfl rfl)
theorem dX1_init_103 : decode cX1_init 103 = .ok (.aload_n 0, 1) := dk_42 (dk_at dksX1_init_4 13 rfl rfl)
theorem dX1_init_104 : decode cX1_init 104 = .ok (.bipush 24, 2) := dk_16 24 (dk_at dksX1_init_4 14 rfl rfl)
theorem dX1_init_106 : decode cX1_init 106 = .ok (.newarray .int, 2) := dk_188_10 (dk_at dksX1_init_4 16 rfl rfl)
theorem dX1_init_108 : decode cX1_init 108 = .ok (.putfield 57, 3) := dk_181 0 57 (dk_at dksX1_init_4 18 rfl rfl)
theorem dX1_init_111 : decode cX1_init 111 = .ok (.aload_n 0, 1) := dk_42 (dk_at dksX1_init_4 21 rfl rfl)
theorem dX1_init_112 : decode cX1_init 112 = .ok (.bipush 24, 2) := dk_16 24 (dk_at dksX1_init_4 22 rfl rfl)
theorem dX1_init_114 : decode cX1_init 114 = .ok (.newarray .int, 2) := dk_188_10 (dk_at dksX1_init_5 0 rfl rfl)
theorem dX1_init_116 : decode cX1_init 116 = .ok (.putfield 60, 3) := dk_181 0 60 (dk_at dksX1_init_5 2 rfl rfl)
theorem dX1_init_119 : decode cX1_init 119 = .ok (.aload_n 0, 1) := dk_42 (dk_at dksX1_init_5 5 rfl rfl)
theorem dX1_init_120 : decode cX1_init 120 = .ok (.bipush 24, 2) := dk_16 24 (dk_at dksX1_init_5 6 rfl rfl)
theorem dX1_init_122 : decode cX1_init 122 = .ok (.newarray .int, 2) := dk_188_10 (dk_at dksX1_init_5 8 rfl rfl)
theorem dX1_init_124 : decode cX1_init 124 = .ok (.putfield 63, 3) := dk_181 0 63 (dk_at dksX1_init_5 10 rfl rfl)
theorem dX1_init_127 : decode cX1_init 127 = .ok (.aload_n 0, 1) := dk_42 (dk_at dksX1_init_5 13 rfl rfl)
theorem dX1_init_128 : decode cX1_init 128 = .ok (.sipush 8400, 3) := dk_17 32 208 (dk_at dksX1_init_5 14 rfl rfl)
theorem dX1_init_131 : decode cX1_init 131 = .ok (.newarray .int, 2) := dk_188_10 (dk_at dksX1_init_5 17 rfl rfl)
theorem dX1_init_133 : decode cX1_init 133 = .ok (.putfield 66, 3) := dk_181 0 66 (dk_at dksX1_init_5 19 rfl rfl)
theorem dX1_init_136 : decode cX1_init 136 = .ok (.aload_n 0, 1) := dk_42 (dk_at dksX1_init_5 22 rfl rfl)
theorem dX1_init_137 : decode cX1_init 137 = .ok (.iconst 5, 1) := dk_8 (dk_at dksX1_init_5 23 rfl rfl)
theorem dX1_init_138 : decode cX1_init 138 = .ok (.anewarray 26, 3) := dk_189 0 26 (dk_at dksX1_init_6 0 rfl rfl)
theorem dX1_init_141 : decode cX1_init 141 = .ok (.putfield 69, 3) := dk_181 0 69 (dk_at dksX1_init_6 3 rfl rfl)
theorem dX1_init_144 : decode cX1_init 144 = .ok (.aload_n 0, 1) := dk_42 (dk_at dksX1_init_6 6 rfl rfl)
theorem dX1_init_145 : decode cX1_init 145 = .ok (.iconst 5, 1) := dk_8 (dk_at dksX1_init_6 7 rfl rfl)
theorem dX1_init_146 : decode cX1_init 146 = .ok (.newarray .int, 2) := dk_188_10 (dk_at dksX1_init_6 8 rfl rfl)
theorem dX1_init_148 : decode cX1_init 148 = .ok (.putfield 73, 3) := dk_181 0 73 (dk_at dksX1_init_6 10 rfl rfl)
theorem dX1_init_151 : decode cX1_init 151 = .ok (.aload_n 0, 1) := dk_42 (dk_at dksX1_init_6 13 rfl rfl)
theorem dX1_init_152 : decode cX1_init 152 = .ok (.iconst 5, 1) := dk_8 (dk_at dksX1_init_6 14 rfl rfl)
theorem dX1_init_153 : decode cX1_init 153 = .ok (.newarray .int, 2) := dk_188_10 (dk_at dksX1_init_6 15 rfl rfl)
theorem dX1_init_155 : decode cX1_init 155 = .ok (.putfield 76, 3) := dk_181 0 76 (dk_at dksX1_init_6 17 rfl rfl)
theorem dX1_init_158 : decode cX1_init 158 = .ok (.aload_n 0, 1) := dk_42 (dk_at dksX1_init_6 20 rfl rfl)
theorem dX1_init_159 : decode cX1_init 159 = .ok (.iconst 5, 1) := dk_8 (dk_at dksX1_init_6 21 rfl rfl)
theorem dX1_init_160 : decode cX1_init 160 = .ok (.newarray .int, 2) := dk_188_10 (dk_at dksX1_init_6 22 rfl rfl)
theorem dX1_init_162 : decode cX1_init 162 = .ok (.putfield 79, 3) := dk_181 0 79 (dk_at dksX1_init_7 0 rfl rfl)
theorem dX1_init_165 : decode cX1_init 165 = .ok (.aload_n 0, 1) := dk_42 (dk_at dksX1_init_7 3 rfl rfl)
theorem dX1_init_166 : decode cX1_init 166 = .ok (.new 82, 3) := dk_187 0 82 (dk_at dksX1_init_7 4 rfl rfl)
theorem dX1_init_169 : decode cX1_init 169 = .ok (.dup, 1) := dk_89 (dk_at dksX1_init_7 7 rfl rfl)
theorem dX1_init_170 : decode cX1_init 170 = .ok (.invokespecial 84, 3) := dk_183 0 84 (dk_at dksX1_init_7 8 rfl rfl)
theorem dX1_init_173 : decode cX1_init 173 = .ok (.putfield 85, 3) := dk_181 0 85 (dk_at dksX1_init_7 11 rfl rfl)
theorem dX1_init_176 : decode cX1_init 176 = .ok (.aload_n 0, 1) := dk_42 (dk_at dksX1_init_7 14 rfl rfl)
theorem dX1_init_177 : decode cX1_init 177 = .ok (.new 82, 3) := dk_187 0 82 (dk_at dksX1_init_7 15 rfl rfl)
theorem dX1_init_180 : decode cX1_init 180 = .ok (.dup, 1) := dk_89 (dk_at dksX1_init_7 18 rfl rfl)
theorem dX1_init_181 : decode cX1_init 181 = .ok (.invokespecial 84, 3) := dk_183 0 84 (dk_at dksX1_init_7 19 rfl rfl)
theorem dX1_init_184 : decode cX1_init 184 = .ok (.putfield 89, 3) := dk_181 0 89 (dk_at dksX1_init_8 0 rfl rfl)
theorem dX1_init_187 : decode cX1_init 187 = .ok (.aload_n 0, 1) := dk_42 (dk_at dksX1_init_8 3 rfl rfl)
theorem dX1_init_188 : decode cX1_init 188 = .ok (.new 92, 3) := dk_187 0 92 (dk_at dksX1_init_8 4 rfl rfl)
theorem dX1_init_191 : decode cX1_init 191 = .ok (.dup, 1) := dk_89 (dk_at dksX1_init_8 7 rfl rfl)
theorem dX1_init_192 : decode cX1_init 192 = .ok (.invokespecial 94, 3) := dk_183 0 94 (dk_at dksX1_init_8 8 rfl rfl)
theorem dX1_init_195 : decode cX1_init 195 = .ok (.putfield 95, 3) := dk_181 0 95 (dk_at dksX1_init_8 11 rfl rfl)
theorem dX1_init_198 : decode cX1_init 198 = .ok (.iconst 0, 1) := dk_3 (dk_at dksX1_init_8 14 rfl rfl)
theorem dX1_init_199 : decode cX1_init 199 = .ok (.istore_n 1, 1) := dk_60 (dk_at dksX1_init_8 15 rfl rfl)
theorem dX1_init_200 : decode cX1_init 200 = .ok (.iload_n 1, 1) := dk_27 (dk_at dksX1_init_8 16 rfl rfl)
theorem dX1_init_201 : decode cX1_init 201 = .ok (.bipush 12, 2) := dk_16 12 (dk_at dksX1_init_8 17 rfl rfl)
theorem dX1_init_203 : decode cX1_init 203 = .ok (.if_icmp .ge 22, 3) := dk_162 0 22 (dk_at dksX1_init_8 19 rfl rfl)
theorem dX1_init_206 : decode cX1_init 206 = .ok (.aload_n 0, 1) := dk_42 (dk_at dksX1_init_8 22 rfl rfl)
theorem dX1_init_207 : decode cX1_init 207 = .ok (.getfield 46, 3) := dk_180 0 46 (dk_at dksX1_init_9 0 rfl rfl)
theorem dX1_init_210 : decode cX1_init 210 = .ok (.iload_n 1, 1) := dk_27 (dk_at dksX1_init_9 3 rfl rfl)
theorem dX1_init_211 : decode cX1_init 211 = .ok (.new 36, 3) := dk_187 0 36 (dk_at dksX1_init_9 4 rfl rfl)
theorem dX1_init_214 : decode cX1_init 214 = .ok (.dup, 1) := dk_89 (dk_at dksX1_init_9 7 rfl rfl)
theorem dX1_init_215 : decode cX1_init 215 = .ok (.invokespecial 38, 3) := dk_183 0 38 (dk_at dksX1_init_9 8 rfl rfl)
theorem dX1_init_218 : decode cX1_init 218 = .ok (.aastore, 1) := dk_83 (dk_at dksX1_init_9 11 rfl rfl)
theorem dX1_init_219 : decode cX1_init 219 = .ok (.iinc 1 1, 3) := dk_132 1 1 (dk_at dksX1_init_9 12 rfl rfl)
theorem dX1_init_222 : decode cX1_init 222 = .ok (.goto (-22), 3) := dk_167 255 234 (dk_at dksX1_init_9 15 rfl rfl)
theorem dX1_init_225 : decode cX1_init 225 = .ok (.iconst 0, 1) := dk_3 (dk_at dksX1_init_9 18 rfl rfl)
theorem dX1_init_226 : decode cX1_init 226 = .ok (.istore_n 1, 1) := dk_60 (dk_at dksX1_init_9 19 rfl rfl)
theorem dX1_init_227 : decode cX1_init 227 = .ok (.iload_n 1, 1) := dk_27 (dk_at dksX1_init_9 20 rfl rfl)
theorem dX1_init_228 : decode cX1_init 228 = .ok (.iconst 5, 1) := dk_8 (dk_at dksX1_init_9 21 rfl rfl)
theorem dX1_init_229 : decode cX1_init 229 = .ok (.if_icmp .ge 22, 3) := dk_162 0 22 (dk_at dksX1_init_10 0 rfl rfl)
theorem dX1_init_232 : decode cX1_init 232 = .ok (.aload_n 0, 1) := dk_42 (dk_at dksX1_init_10 3 rfl rfl)
theorem dX1_init_233 : decode cX1_init 233 = .ok (.getfield 69, 3) := dk_180 0 69 (dk_at dksX1_init_10 4 rfl rfl)
theorem dX1_init_236 : decode cX1_init 236 = .ok (.iload_n 1, 1) := dk_27 (dk_at dksX1_init_10 7 rfl rfl)
theorem dX1_init_237 : decode cX1_init 237 = .ok (.new 26, 3) := dk_187 0 26 (dk_at dksX1_init_10 8 rfl rfl)
theorem dX1_init_240 : decode cX1_init 240 = .ok (.dup, 1) := dk_89 (dk_at dksX1_init_10 11 rfl rfl)
theorem dX1_init_241 : decode cX1_init 241 = .ok (.invokespecial 28, 3) := dk_183 0 28 (dk_at dksX1_init_10 12 rfl rfl)
theorem dX1_init_244 : decode cX1_init 244 = .ok (.aastore, 1) := dk_83 (dk_at dksX1_init_10 15 rfl rfl)
theorem dX1_init_245 : decode cX1_init 245 = .ok (.iinc 1 1, 3) := dk_132 1 1 (dk_at dksX1_init_10 16 rfl rfl)
theorem dX1_init_248 : decode cX1_init 248 = .ok (.goto (-21), 3) := dk_167 255 235 (dk_at dksX1_init_10 19 rfl rfl)
theorem dX1_init_251 : decode cX1_init 251 = .ok (.return_, 1) := dk_177 (dk_at dksX1_init_10 22 rfl rfl)
abbrev cX1_feed : ByteArray := prog_1_method_6_code
def yX1_feed : MethodName := ⟨RX1, "feed", "(IIIII)I"⟩
def dkwX1_feed_2 : List UInt8 := [172]
abbrev dktX1_feed_2 : List UInt8 := dkwX1_feed_2 ++ []
def dkwX1_feed_1 : List UInt8 := [182, 0, 108, 42, 29, 182, 0, 108, 42, 21, 4, 182, 0, 108, 42, 21, 5, 182, 0, 108, 42, 180, 0, 105]
abbrev dktX1_feed_1 : List UInt8 := dkwX1_feed_1 ++ dktX1_feed_2
def dkwX1_feed_0 : List UInt8 := [42, 180, 0, 105, 16, 20, 96, 17, 2, 188, 164, 0, 5, 2, 172, 42, 27, 182, 0, 108, 42, 28]
abbrev dktX1_feed_0 : List UInt8 := dkwX1_feed_0 ++ dktX1_feed_1
theorem dksX1_feed_0 : cX1_feed.data.toList.drop 0 = dktX1_feed_0 := by decide +kernel
theorem dksX1_feed_1 : cX1_feed.data.toList.drop 22 = dktX1_feed_1 := dk_seg dksX1_feed_0 22 rfl rfl
theorem dksX1_feed_2 : cX1_feed.data.toList.drop 46 = dktX1_feed_2 := dk_seg dksX1_feed_1 24 rfl rfl
theorem dX1_feed_0 : decode cX1_feed 0 = .ok (.aload_n 0, 1) := dk_42 (dk_at dksX1_feed_0 0 rfl rfl)
theorem dX1_feed_1 : decode cX1_feed 1 = .ok (.getfield 105, 3) := dk_180 0 105 (dk_at dksX1_feed_0 1 rfl rfl)
theorem dX1_feed_4 : decode cX1_feed 4 = .ok (.bipush 20, 2) := dk_16 20 (dk_at dksX1_feed_0 4 rfl rfl)
theorem dX1_feed_6 : decode cX1_feed 6 = .ok (.iadd, 1) := dk_96 (dk_at dksX1_feed_0 6 rfl rfl)
theorem dX1_feed_7 : decode cX1_feed 7 = .ok (.sipush 700, 3) := dk_17 2 188 (dk_at dksX1_feed_0 7 rfl rfl)
theorem dX1_feed_10 : decode cX1_feed 10 = .ok (.if_icmp .le 5, 3) := dk_164 0 5 (dk_at dksX1_feed_0 10 rfl rfl)
theorem dX1_feed_13 : decode cX1_feed 13 = .ok (.iconst (-1), 1) := dk_2 (dk_at dksX1_feed_0 13 rfl rfl)
theorem dX1_feed_14 : decode cX1_feed 14 = .ok (.ireturn, 1) := dk_172 (dk_at dksX1_feed_0 14 rfl rfl)
theorem dX1_feed_15 : decode cX1_feed 15 = .ok (.aload_n 0, 1) := dk_42 (dk_at dksX1_feed_0 15 rfl rfl)
theorem dX1_feed_16 : decode cX1_feed 16 = .ok (.iload_n 1, 1) := dk_27 (dk_at dksX1_feed_0 16 rfl rfl)
theorem dX1_feed_17 : decode cX1_feed 17 = .ok (.invokevirtual 108, 3) := dk_182 0 108 (dk_at dksX1_feed_0 17 rfl rfl)
theorem dX1_feed_20 : decode cX1_feed 20 = .ok (.aload_n 0, 1) := dk_42 (dk_at dksX1_feed_0 20 rfl rfl)
theorem dX1_feed_21 : decode cX1_feed 21 = .ok (.iload_n 2, 1) := dk_28 (dk_at dksX1_feed_0 21 rfl rfl)
theorem dX1_feed_22 : decode cX1_feed 22 = .ok (.invokevirtual 108, 3) := dk_182 0 108 (dk_at dksX1_feed_1 0 rfl rfl)
theorem dX1_feed_25 : decode cX1_feed 25 = .ok (.aload_n 0, 1) := dk_42 (dk_at dksX1_feed_1 3 rfl rfl)
theorem dX1_feed_26 : decode cX1_feed 26 = .ok (.iload_n 3, 1) := dk_29 (dk_at dksX1_feed_1 4 rfl rfl)
theorem dX1_feed_27 : decode cX1_feed 27 = .ok (.invokevirtual 108, 3) := dk_182 0 108 (dk_at dksX1_feed_1 5 rfl rfl)
theorem dX1_feed_30 : decode cX1_feed 30 = .ok (.aload_n 0, 1) := dk_42 (dk_at dksX1_feed_1 8 rfl rfl)
theorem dX1_feed_31 : decode cX1_feed 31 = .ok (.iload 4, 2) := dk_21 4 (dk_at dksX1_feed_1 9 rfl rfl)
theorem dX1_feed_33 : decode cX1_feed 33 = .ok (.invokevirtual 108, 3) := dk_182 0 108 (dk_at dksX1_feed_1 11 rfl rfl)
theorem dX1_feed_36 : decode cX1_feed 36 = .ok (.aload_n 0, 1) := dk_42 (dk_at dksX1_feed_1 14 rfl rfl)
theorem dX1_feed_37 : decode cX1_feed 37 = .ok (.iload 5, 2) := dk_21 5 (dk_at dksX1_feed_1 15 rfl rfl)
theorem dX1_feed_39 : decode cX1_feed 39 = .ok (.invokevirtual 108, 3) := dk_182 0 108 (dk_at dksX1_feed_1 17 rfl rfl)
theorem dX1_feed_42 : decode cX1_feed 42 = .ok (.aload_n 0, 1) := dk_42 (dk_at dksX1_feed_1 20 rfl rfl)
theorem dX1_feed_43 : decode cX1_feed 43 = .ok (.getfield 105, 3) := dk_180 0 105 (dk_at dksX1_feed_1 21 rfl rfl)
theorem dX1_feed_46 : decode cX1_feed 46 = .ok (.ireturn, 1) := dk_172 (dk_at dksX1_feed_2 0 rfl rfl)
abbrev cX1_bytes : ByteArray := prog_1_method_7_code
def yX1_bytes : MethodName := ⟨RX1, "bytes", "(I)V"⟩
def dkwX1_bytes_1 : List UInt8 := [180, 0, 105, 4, 96, 181, 0, 105, 132, 2, 248, 167, 255, 226, 177]
abbrev dktX1_bytes_1 : List UInt8 := dkwX1_bytes_1 ++ []
def dkwX1_bytes_0 : List UInt8 := [16, 24, 61, 28, 155, 0, 32, 42, 180, 0, 9, 42, 180, 0, 105, 27, 28, 122, 145, 84, 42, 89]
abbrev dktX1_bytes_0 : List UInt8 := dkwX1_bytes_0 ++ dktX1_bytes_1
theorem dksX1_bytes_0 : cX1_bytes.data.toList.drop 0 = dktX1_bytes_0 := by decide +kernel
theorem dksX1_bytes_1 : cX1_bytes.data.toList.drop 22 = dktX1_bytes_1 := dk_seg dksX1_bytes_0 22 rfl rfl
theorem dX1_bytes_0 : decode cX1_bytes 0 = .ok (.bipush 24, 2) := dk_16 24 (dk_at dksX1_bytes_0 0 rfl rfl)
theorem dX1_bytes_2 : decode cX1_bytes 2 = .ok (.istore_n 2, 1) := dk_61 (dk_at dksX1_bytes_0 2 rfl rfl)
theorem dX1_bytes_3 : decode cX1_bytes 3 = .ok (.iload_n 2, 1) := dk_28 (dk_at dksX1_bytes_0 3 rfl rfl)
theorem dX1_bytes_4 : decode cX1_bytes 4 = .ok (.ifCond .lt 32, 3) := dk_155 0 32 (dk_at dksX1_bytes_0 4 rfl rfl)
theorem dX1_bytes_7 : decode cX1_bytes 7 = .ok (.aload_n 0, 1) := dk_42 (dk_at dksX1_bytes_0 7 rfl rfl)
theorem dX1_bytes_8 : decode cX1_bytes 8 = .ok (.getfield 9, 3) := dk_180 0 9 (dk_at dksX1_bytes_0 8 rfl rfl)
theorem dX1_bytes_11 : decode cX1_bytes 11 = .ok (.aload_n 0, 1) := dk_42 (dk_at dksX1_bytes_0 11 rfl rfl)
theorem dX1_bytes_12 : decode cX1_bytes 12 = .ok (.getfield 105, 3) := dk_180 0 105 (dk_at dksX1_bytes_0 12 rfl rfl)
theorem dX1_bytes_15 : decode cX1_bytes 15 = .ok (.iload_n 1, 1) := dk_27 (dk_at dksX1_bytes_0 15 rfl rfl)
theorem dX1_bytes_16 : decode cX1_bytes 16 = .ok (.iload_n 2, 1) := dk_28 (dk_at dksX1_bytes_0 16 rfl rfl)
theorem dX1_bytes_17 : decode cX1_bytes 17 = .ok (.ishr, 1) := dk_122 (dk_at dksX1_bytes_0 17 rfl rfl)
theorem dX1_bytes_18 : decode cX1_bytes 18 = .ok (.i2b, 1) := dk_145 (dk_at dksX1_bytes_0 18 rfl rfl)
theorem dX1_bytes_19 : decode cX1_bytes 19 = .ok (.bastore, 1) := dk_84 (dk_at dksX1_bytes_0 19 rfl rfl)
theorem dX1_bytes_20 : decode cX1_bytes 20 = .ok (.aload_n 0, 1) := dk_42 (dk_at dksX1_bytes_0 20 rfl rfl)
theorem dX1_bytes_21 : decode cX1_bytes 21 = .ok (.dup, 1) := dk_89 (dk_at dksX1_bytes_0 21 rfl rfl)
theorem dX1_bytes_22 : decode cX1_bytes 22 = .ok (.getfield 105, 3) := dk_180 0 105 (dk_at dksX1_bytes_1 0 rfl rfl)
theorem dX1_bytes_25 : decode cX1_bytes 25 = .ok (.iconst 1, 1) := dk_4 (dk_at dksX1_bytes_1 3 rfl rfl)
theorem dX1_bytes_26 : decode cX1_bytes 26 = .ok (.iadd, 1) := dk_96 (dk_at dksX1_bytes_1 4 rfl rfl)
theorem dX1_bytes_27 : decode cX1_bytes 27 = .ok (.putfield 105, 3) := dk_181 0 105 (dk_at dksX1_bytes_1 5 rfl rfl)
theorem dX1_bytes_30 : decode cX1_bytes 30 = .ok (.iinc 2 (-8), 3) := dk_132 2 248 (dk_at dksX1_bytes_1 8 rfl rfl)
theorem dX1_bytes_33 : decode cX1_bytes 33 = .ok (.goto (-30), 3) := dk_167 255 226 (dk_at dksX1_bytes_1 11 rfl rfl)
theorem dX1_bytes_36 : decode cX1_bytes 36 = .ok (.return_, 1) := dk_177 (dk_at dksX1_bytes_1 14 rfl rfl)
abbrev cX1_mill : ByteArray := prog_1_method_8_code
def yX1_mill : MethodName := ⟨RX1, "mill", "(I)I"⟩
def dkwX1_mill_6 : List UInt8 := [181, 0, 149, 42, 3, 181, 0, 152, 42, 180, 0, 127, 180, 0, 155, 172]
abbrev dktX1_mill_6 : List UInt8 := dkwX1_mill_6 ++ []
def dkwX1_mill_5 : List UInt8 := [3, 181, 0, 143, 42, 3, 181, 0, 146, 42, 180, 0, 85, 3, 181, 0, 149, 42, 180, 0, 89, 3]
abbrev dktX1_mill_5 : List UInt8 := dkwX1_mill_5 ++ dktX1_mill_6
def dkwX1_mill_4 : List UInt8 := [21, 4, 29, 162, 0, 20, 44, 21, 4, 50, 58, 5, 25, 5, 182, 0, 140, 132, 4, 1, 167, 255, 236, 42]
abbrev dktX1_mill_4 : List UInt8 := dkwX1_mill_4 ++ dktX1_mill_5
def dkwX1_mill_3 : List UInt8 := [180, 0, 29, 182, 0, 137, 42, 180, 0, 39, 182, 0, 140, 42, 180, 0, 46, 77, 44, 190, 62, 3, 54, 4]
abbrev dktX1_mill_3 : List UInt8 := dkwX1_mill_3 ++ dktX1_mill_4
def dkwX1_mill_2 : List UInt8 := [42, 44, 180, 0, 133, 181, 0, 120, 42, 44, 180, 0, 134, 181, 0, 22, 42, 7, 182, 0, 116, 172, 42]
abbrev dktX1_mill_2 : List UInt8 := dkwX1_mill_2 ++ dktX1_mill_3
def dkwX1_mill_1 : List UInt8 := [181, 0, 105, 42, 3, 181, 0, 120, 42, 42, 180, 0, 18, 27, 182, 0, 123, 181, 0, 127, 167, 0, 26, 77]
abbrev dktX1_mill_1 : List UInt8 := dkwX1_mill_1 ++ dktX1_mill_2
def dkwX1_mill_0 : List UInt8 := [42, 182, 0, 102, 27, 3, 42, 180, 0, 105, 184, 0, 112, 154, 0, 9, 42, 5, 182, 0, 116, 172, 42, 3]
abbrev dktX1_mill_0 : List UInt8 := dkwX1_mill_0 ++ dktX1_mill_1
theorem dksX1_mill_0 : cX1_mill.data.toList.drop 0 = dktX1_mill_0 := by decide +kernel
theorem dksX1_mill_1 : cX1_mill.data.toList.drop 24 = dktX1_mill_1 := dk_seg dksX1_mill_0 24 rfl rfl
theorem dksX1_mill_2 : cX1_mill.data.toList.drop 48 = dktX1_mill_2 := dk_seg dksX1_mill_1 24 rfl rfl
theorem dksX1_mill_3 : cX1_mill.data.toList.drop 71 = dktX1_mill_3 := dk_seg dksX1_mill_2 23 rfl rfl
theorem dksX1_mill_4 : cX1_mill.data.toList.drop 95 = dktX1_mill_4 := dk_seg dksX1_mill_3 24 rfl rfl
theorem dksX1_mill_5 : cX1_mill.data.toList.drop 119 = dktX1_mill_5 := dk_seg dksX1_mill_4 24 rfl rfl
theorem dksX1_mill_6 : cX1_mill.data.toList.drop 141 = dktX1_mill_6 := dk_seg dksX1_mill_5 22 rfl rfl
theorem dX1_mill_0 : decode cX1_mill 0 = .ok (.aload_n 0, 1) := dk_42 (dk_at dksX1_mill_0 0 rfl rfl)
theorem dX1_mill_1 : decode cX1_mill 1 = .ok (.invokevirtual 102, 3) := dk_182 0 102 (dk_at dksX1_mill_0 1 rfl rfl)
theorem dX1_mill_4 : decode cX1_mill 4 = .ok (.iload_n 1, 1) := dk_27 (dk_at dksX1_mill_0 4 rfl rfl)
theorem dX1_mill_5 : decode cX1_mill 5 = .ok (.iconst 0, 1) := dk_3 (dk_at dksX1_mill_0 5 rfl rfl)
theorem dX1_mill_6 : decode cX1_mill 6 = .ok (.aload_n 0, 1) := dk_42 (dk_at dksX1_mill_0 6 rfl rfl)
theorem dX1_mill_7 : decode cX1_mill 7 = .ok (.getfield 105, 3) := dk_180 0 105 (dk_at dksX1_mill_0 7 rfl rfl)
theorem dX1_mill_10 : decode cX1_mill 10 = .ok (.invokestatic 112, 3) := dk_184 0 112 (dk_at dksX1_mill_0 10 rfl rfl)
theorem dX1_mill_13 : decode cX1_mill 13 = .ok (.ifCond .ne 9, 3) := dk_154 0 9 (dk_at dksX1_mill_0 13 rfl rfl)
theorem dX1_mill_16 : decode cX1_mill 16 = .ok (.aload_n 0, 1) := dk_42 (dk_at dksX1_mill_0 16 rfl rfl)
theorem dX1_mill_17 : decode cX1_mill 17 = .ok (.iconst 2, 1) := dk_5 (dk_at dksX1_mill_0 17 rfl rfl)
theorem dX1_mill_18 : decode cX1_mill 18 = .ok (.invokevirtual 116, 3) := dk_182 0 116 (dk_at dksX1_mill_0 18 rfl rfl)
theorem dX1_mill_21 : decode cX1_mill 21 = .ok (.ireturn, 1) := dk_172 (dk_at dksX1_mill_0 21 rfl rfl)
theorem dX1_mill_22 : decode cX1_mill 22 = .ok (.aload_n 0, 1) := dk_42 (dk_at dksX1_mill_0 22 rfl rfl)
theorem dX1_mill_23 : decode cX1_mill 23 = .ok (.iconst 0, 1) := dk_3 (dk_at dksX1_mill_0 23 rfl rfl)
theorem dX1_mill_24 : decode cX1_mill 24 = .ok (.putfield 105, 3) := dk_181 0 105 (dk_at dksX1_mill_1 0 rfl rfl)
theorem dX1_mill_27 : decode cX1_mill 27 = .ok (.aload_n 0, 1) := dk_42 (dk_at dksX1_mill_1 3 rfl rfl)
theorem dX1_mill_28 : decode cX1_mill 28 = .ok (.iconst 0, 1) := dk_3 (dk_at dksX1_mill_1 4 rfl rfl)
theorem dX1_mill_29 : decode cX1_mill 29 = .ok (.putfield 120, 3) := dk_181 0 120 (dk_at dksX1_mill_1 5 rfl rfl)
theorem dX1_mill_32 : decode cX1_mill 32 = .ok (.aload_n 0, 1) := dk_42 (dk_at dksX1_mill_1 8 rfl rfl)
theorem dX1_mill_33 : decode cX1_mill 33 = .ok (.aload_n 0, 1) := dk_42 (dk_at dksX1_mill_1 9 rfl rfl)
theorem dX1_mill_34 : decode cX1_mill 34 = .ok (.getfield 18, 3) := dk_180 0 18 (dk_at dksX1_mill_1 10 rfl rfl)
theorem dX1_mill_37 : decode cX1_mill 37 = .ok (.iload_n 1, 1) := dk_27 (dk_at dksX1_mill_1 13 rfl rfl)
theorem dX1_mill_38 : decode cX1_mill 38 = .ok (.invokevirtual 123, 3) := dk_182 0 123 (dk_at dksX1_mill_1 14 rfl rfl)
theorem dX1_mill_41 : decode cX1_mill 41 = .ok (.putfield 127, 3) := dk_181 0 127 (dk_at dksX1_mill_1 17 rfl rfl)
theorem dX1_mill_44 : decode cX1_mill 44 = .ok (.goto 26, 3) := dk_167 0 26 (dk_at dksX1_mill_1 20 rfl rfl)
theorem dX1_mill_47 : decode cX1_mill 47 = .ok (.astore_n 2, 1) := dk_77 (dk_at dksX1_mill_1 23 rfl rfl)
theorem dX1_mill_48 : decode cX1_mill 48 = .ok (.aload_n 0, 1) := dk_42 (dk_at dksX1_mill_2 0 rfl rfl)
theorem dX1_mill_49 : decode cX1_mill 49 = .ok (.aload_n 2, 1) := dk_44 (dk_at dksX1_mill_2 1 rfl rfl)
theorem dX1_mill_50 : decode cX1_mill 50 = .ok (.getfield 133, 3) := dk_180 0 133 (dk_at dksX1_mill_2 2 rfl rfl)
theorem dX1_mill_53 : decode cX1_mill 53 = .ok (.putfield 120, 3) := dk_181 0 120 (dk_at dksX1_mill_2 5 rfl rfl)
theorem dX1_mill_56 : decode cX1_mill 56 = .ok (.aload_n 0, 1) := dk_42 (dk_at dksX1_mill_2 8 rfl rfl)
theorem dX1_mill_57 : decode cX1_mill 57 = .ok (.aload_n 2, 1) := dk_44 (dk_at dksX1_mill_2 9 rfl rfl)
theorem dX1_mill_58 : decode cX1_mill 58 = .ok (.getfield 134, 3) := dk_180 0 134 (dk_at dksX1_mill_2 10 rfl rfl)
theorem dX1_mill_61 : decode cX1_mill 61 = .ok (.putfield 22, 3) := dk_181 0 22 (dk_at dksX1_mill_2 13 rfl rfl)
theorem dX1_mill_64 : decode cX1_mill 64 = .ok (.aload_n 0, 1) := dk_42 (dk_at dksX1_mill_2 16 rfl rfl)
theorem dX1_mill_65 : decode cX1_mill 65 = .ok (.iconst 4, 1) := dk_7 (dk_at dksX1_mill_2 17 rfl rfl)
theorem dX1_mill_66 : decode cX1_mill 66 = .ok (.invokevirtual 116, 3) := dk_182 0 116 (dk_at dksX1_mill_2 18 rfl rfl)
theorem dX1_mill_69 : decode cX1_mill 69 = .ok (.ireturn, 1) := dk_172 (dk_at dksX1_mill_2 21 rfl rfl)
theorem dX1_mill_70 : decode cX1_mill 70 = .ok (.aload_n 0, 1) := dk_42 (dk_at dksX1_mill_2 22 rfl rfl)
theorem dX1_mill_71 : decode cX1_mill 71 = .ok (.getfield 29, 3) := dk_180 0 29 (dk_at dksX1_mill_3 0 rfl rfl)
theorem dX1_mill_74 : decode cX1_mill 74 = .ok (.invokevirtual 137, 3) := dk_182 0 137 (dk_at dksX1_mill_3 3 rfl rfl)
theorem dX1_mill_77 : decode cX1_mill 77 = .ok (.aload_n 0, 1) := dk_42 (dk_at dksX1_mill_3 6 rfl rfl)
theorem dX1_mill_78 : decode cX1_mill 78 = .ok (.getfield 39, 3) := dk_180 0 39 (dk_at dksX1_mill_3 7 rfl rfl)
theorem dX1_mill_81 : decode cX1_mill 81 = .ok (.invokevirtual 140, 3) := dk_182 0 140 (dk_at dksX1_mill_3 10 rfl rfl)
theorem dX1_mill_84 : decode cX1_mill 84 = .ok (.aload_n 0, 1) := dk_42 (dk_at dksX1_mill_3 13 rfl rfl)
theorem dX1_mill_85 : decode cX1_mill 85 = .ok (.getfield 46, 3) := dk_180 0 46 (dk_at dksX1_mill_3 14 rfl rfl)
theorem dX1_mill_88 : decode cX1_mill 88 = .ok (.astore_n 2, 1) := dk_77 (dk_at dksX1_mill_3 17 rfl rfl)
theorem dX1_mill_89 : decode cX1_mill 89 = .ok (.aload_n 2, 1) := dk_44 (dk_at dksX1_mill_3 18 rfl rfl)
theorem dX1_mill_90 : decode cX1_mill 90 = .ok (.arraylength, 1) := dk_190 (dk_at dksX1_mill_3 19 rfl rfl)
theorem dX1_mill_91 : decode cX1_mill 91 = .ok (.istore_n 3, 1) := dk_62 (dk_at dksX1_mill_3 20 rfl rfl)
theorem dX1_mill_92 : decode cX1_mill 92 = .ok (.iconst 0, 1) := dk_3 (dk_at dksX1_mill_3 21 rfl rfl)
theorem dX1_mill_93 : decode cX1_mill 93 = .ok (.istore 4, 2) := dk_54 4 (dk_at dksX1_mill_3 22 rfl rfl)
theorem dX1_mill_95 : decode cX1_mill 95 = .ok (.iload 4, 2) := dk_21 4 (dk_at dksX1_mill_4 0 rfl rfl)
theorem dX1_mill_97 : decode cX1_mill 97 = .ok (.iload_n 3, 1) := dk_29 (dk_at dksX1_mill_4 2 rfl rfl)
theorem dX1_mill_98 : decode cX1_mill 98 = .ok (.if_icmp .ge 20, 3) := dk_162 0 20 (dk_at dksX1_mill_4 3 rfl rfl)
theorem dX1_mill_101 : decode cX1_mill 101 = .ok (.aload_n 2, 1) := dk_44 (dk_at dksX1_mill_4 6 rfl rfl)
theorem dX1_mill_102 : decode cX1_mill 102 = .ok (.iload 4, 2) := dk_21 4 (dk_at dksX1_mill_4 7 rfl rfl)
theorem dX1_mill_104 : decode cX1_mill 104 = .ok (.aaload, 1) := dk_50 (dk_at dksX1_mill_4 9 rfl rfl)
theorem dX1_mill_105 : decode cX1_mill 105 = .ok (.astore 5, 2) := dk_58 5 (dk_at dksX1_mill_4 10 rfl rfl)
theorem dX1_mill_107 : decode cX1_mill 107 = .ok (.aload 5, 2) := dk_25 5 (dk_at dksX1_mill_4 12 rfl rfl)
theorem dX1_mill_109 : decode cX1_mill 109 = .ok (.invokevirtual 140, 3) := dk_182 0 140 (dk_at dksX1_mill_4 14 rfl rfl)
theorem dX1_mill_112 : decode cX1_mill 112 = .ok (.iinc 4 1, 3) := dk_132 4 1 (dk_at dksX1_mill_4 17 rfl rfl)
theorem dX1_mill_115 : decode cX1_mill 115 = .ok (.goto (-20), 3) := dk_167 255 236 (dk_at dksX1_mill_4 20 rfl rfl)
theorem dX1_mill_118 : decode cX1_mill 118 = .ok (.aload_n 0, 1) := dk_42 (dk_at dksX1_mill_4 23 rfl rfl)
theorem dX1_mill_119 : decode cX1_mill 119 = .ok (.iconst 0, 1) := dk_3 (dk_at dksX1_mill_5 0 rfl rfl)
theorem dX1_mill_120 : decode cX1_mill 120 = .ok (.putfield 143, 3) := dk_181 0 143 (dk_at dksX1_mill_5 1 rfl rfl)
theorem dX1_mill_123 : decode cX1_mill 123 = .ok (.aload_n 0, 1) := dk_42 (dk_at dksX1_mill_5 4 rfl rfl)
theorem dX1_mill_124 : decode cX1_mill 124 = .ok (.iconst 0, 1) := dk_3 (dk_at dksX1_mill_5 5 rfl rfl)
theorem dX1_mill_125 : decode cX1_mill 125 = .ok (.putfield 146, 3) := dk_181 0 146 (dk_at dksX1_mill_5 6 rfl rfl)
theorem dX1_mill_128 : decode cX1_mill 128 = .ok (.aload_n 0, 1) := dk_42 (dk_at dksX1_mill_5 9 rfl rfl)
theorem dX1_mill_129 : decode cX1_mill 129 = .ok (.getfield 85, 3) := dk_180 0 85 (dk_at dksX1_mill_5 10 rfl rfl)
theorem dX1_mill_132 : decode cX1_mill 132 = .ok (.iconst 0, 1) := dk_3 (dk_at dksX1_mill_5 13 rfl rfl)
theorem dX1_mill_133 : decode cX1_mill 133 = .ok (.putfield 149, 3) := dk_181 0 149 (dk_at dksX1_mill_5 14 rfl rfl)
theorem dX1_mill_136 : decode cX1_mill 136 = .ok (.aload_n 0, 1) := dk_42 (dk_at dksX1_mill_5 17 rfl rfl)
theorem dX1_mill_137 : decode cX1_mill 137 = .ok (.getfield 89, 3) := dk_180 0 89 (dk_at dksX1_mill_5 18 rfl rfl)
theorem dX1_mill_140 : decode cX1_mill 140 = .ok (.iconst 0, 1) := dk_3 (dk_at dksX1_mill_5 21 rfl rfl)
theorem dX1_mill_141 : decode cX1_mill 141 = .ok (.putfield 149, 3) := dk_181 0 149 (dk_at dksX1_mill_6 0 rfl rfl)
theorem dX1_mill_144 : decode cX1_mill 144 = .ok (.aload_n 0, 1) := dk_42 (dk_at dksX1_mill_6 3 rfl rfl)
theorem dX1_mill_145 : decode cX1_mill 145 = .ok (.iconst 0, 1) := dk_3 (dk_at dksX1_mill_6 4 rfl rfl)
theorem dX1_mill_146 : decode cX1_mill 146 = .ok (.putfield 152, 3) := dk_181 0 152 (dk_at dksX1_mill_6 5 rfl rfl)
theorem dX1_mill_149 : decode cX1_mill 149 = .ok (.aload_n 0, 1) := dk_42 (dk_at dksX1_mill_6 8 rfl rfl)
theorem dX1_mill_150 : decode cX1_mill 150 = .ok (.getfield 127, 3) := dk_180 0 127 (dk_at dksX1_mill_6 9 rfl rfl)
theorem dX1_mill_153 : decode cX1_mill 153 = .ok (.getfield 155, 3) := dk_180 0 155 (dk_at dksX1_mill_6 12 rfl rfl)
theorem dX1_mill_156 : decode cX1_mill 156 = .ok (.ireturn, 1) := dk_172 (dk_at dksX1_mill_6 15 rfl rfl)
abbrev cX1_anew : ByteArray := prog_1_method_3_code
def yX1_anew : MethodName := ⟨RX1, "anew", "()V"⟩
def dkwX1_anew_0 : List UInt8 := [42, 3, 181, 0, 99, 42, 2, 181, 0, 22, 177]
abbrev dktX1_anew_0 : List UInt8 := dkwX1_anew_0 ++ []
theorem dksX1_anew_0 : cX1_anew.data.toList.drop 0 = dktX1_anew_0 := by decide +kernel
theorem dX1_anew_0 : decode cX1_anew 0 = .ok (.aload_n 0, 1) := dk_42 (dk_at dksX1_anew_0 0 rfl rfl)
theorem dX1_anew_1 : decode cX1_anew 1 = .ok (.iconst 0, 1) := dk_3 (dk_at dksX1_anew_0 1 rfl rfl)
theorem dX1_anew_2 : decode cX1_anew 2 = .ok (.putfield 99, 3) := dk_181 0 99 (dk_at dksX1_anew_0 2 rfl rfl)
theorem dX1_anew_5 : decode cX1_anew 5 = .ok (.aload_n 0, 1) := dk_42 (dk_at dksX1_anew_0 5 rfl rfl)
theorem dX1_anew_6 : decode cX1_anew 6 = .ok (.iconst (-1), 1) := dk_2 (dk_at dksX1_anew_0 6 rfl rfl)
theorem dX1_anew_7 : decode cX1_anew 7 = .ok (.putfield 22, 3) := dk_181 0 22 (dk_at dksX1_anew_0 7 rfl rfl)
theorem dX1_anew_10 : decode cX1_anew 10 = .ok (.return_, 1) := dk_177 (dk_at dksX1_anew_0 10 rfl rfl)
abbrev cX1_in : ByteArray := prog_1_method_1_code
def yX1_in : MethodName := ⟨RX1, "in", "(III)Z"⟩
def dkwX1_in_0 : List UInt8 := [26, 27, 161, 0, 12, 26, 28, 163, 0, 7, 4, 167, 0, 4, 3, 172]
abbrev dktX1_in_0 : List UInt8 := dkwX1_in_0 ++ []
theorem dksX1_in_0 : cX1_in.data.toList.drop 0 = dktX1_in_0 := by decide +kernel
theorem dX1_in_0 : decode cX1_in 0 = .ok (.iload_n 0, 1) := dk_26 (dk_at dksX1_in_0 0 rfl rfl)
theorem dX1_in_1 : decode cX1_in 1 = .ok (.iload_n 1, 1) := dk_27 (dk_at dksX1_in_0 1 rfl rfl)
theorem dX1_in_2 : decode cX1_in 2 = .ok (.if_icmp .lt 12, 3) := dk_161 0 12 (dk_at dksX1_in_0 2 rfl rfl)
theorem dX1_in_5 : decode cX1_in 5 = .ok (.iload_n 0, 1) := dk_26 (dk_at dksX1_in_0 5 rfl rfl)
theorem dX1_in_6 : decode cX1_in 6 = .ok (.iload_n 2, 1) := dk_28 (dk_at dksX1_in_0 6 rfl rfl)
theorem dX1_in_7 : decode cX1_in 7 = .ok (.if_icmp .gt 7, 3) := dk_163 0 7 (dk_at dksX1_in_0 7 rfl rfl)
theorem dX1_in_10 : decode cX1_in 10 = .ok (.iconst 1, 1) := dk_4 (dk_at dksX1_in_0 10 rfl rfl)
theorem dX1_in_11 : decode cX1_in 11 = .ok (.goto 4, 3) := dk_167 0 4 (dk_at dksX1_in_0 11 rfl rfl)
theorem dX1_in_14 : decode cX1_in 14 = .ok (.iconst 0, 1) := dk_3 (dk_at dksX1_in_0 14 rfl rfl)
theorem dX1_in_15 : decode cX1_in 15 = .ok (.ireturn, 1) := dk_172 (dk_at dksX1_in_0 15 rfl rfl)
abbrev cX1_no : ByteArray := prog_1_method_4_code
def yX1_no : MethodName := ⟨RX1, "no", "(I)I"⟩
def dkwX1_no_0 : List UInt8 := [42, 27, 181, 0, 99, 2, 172]
abbrev dktX1_no_0 : List UInt8 := dkwX1_no_0 ++ []
theorem dksX1_no_0 : cX1_no.data.toList.drop 0 = dktX1_no_0 := by decide +kernel
theorem dX1_no_0 : decode cX1_no 0 = .ok (.aload_n 0, 1) := dk_42 (dk_at dksX1_no_0 0 rfl rfl)
theorem dX1_no_1 : decode cX1_no 1 = .ok (.iload_n 1, 1) := dk_27 (dk_at dksX1_no_0 1 rfl rfl)
theorem dX1_no_2 : decode cX1_no 2 = .ok (.putfield 99, 3) := dk_181 0 99 (dk_at dksX1_no_0 2 rfl rfl)
theorem dX1_no_5 : decode cX1_no 5 = .ok (.iconst (-1), 1) := dk_2 (dk_at dksX1_no_0 5 rfl rfl)
theorem dX1_no_6 : decode cX1_no 6 = .ok (.ireturn, 1) := dk_172 (dk_at dksX1_no_0 6 rfl rfl)
abbrev cX1_fault : ByteArray := prog_1_method_9_code
def yX1_fault : MethodName := ⟨RX1, "fault", "()I"⟩
theorem dX1_fault_0 : decode cX1_fault 0 = .ok (.aload_n 0, 1) := by decide +kernel
theorem dX1_fault_1 : decode cX1_fault 1 = .ok (.getfield 120, 3) := by decide +kernel
theorem dX1_fault_4 : decode cX1_fault 4 = .ok (.ireturn, 1) := by decide +kernel
abbrev cX1_where : ByteArray := prog_1_method_10_code
def yX1_where : MethodName := ⟨RX1, "where", "()I"⟩
def dkwX1_where_0 : List UInt8 := [42, 180, 0, 99, 7, 160, 0, 10, 42, 180, 0, 22, 167, 0, 4, 2, 172]
abbrev dktX1_where_0 : List UInt8 := dkwX1_where_0 ++ []
theorem dksX1_where_0 : cX1_where.data.toList.drop 0 = dktX1_where_0 := by decide +kernel
theorem dX1_where_0 : decode cX1_where 0 = .ok (.aload_n 0, 1) := dk_42 (dk_at dksX1_where_0 0 rfl rfl)
theorem dX1_where_1 : decode cX1_where 1 = .ok (.getfield 99, 3) := dk_180 0 99 (dk_at dksX1_where_0 1 rfl rfl)
theorem dX1_where_4 : decode cX1_where 4 = .ok (.iconst 4, 1) := dk_7 (dk_at dksX1_where_0 4 rfl rfl)
theorem dX1_where_5 : decode cX1_where 5 = .ok (.if_icmp .ne 10, 3) := dk_160 0 10 (dk_at dksX1_where_0 5 rfl rfl)
theorem dX1_where_8 : decode cX1_where 8 = .ok (.aload_n 0, 1) := dk_42 (dk_at dksX1_where_0 8 rfl rfl)
theorem dX1_where_9 : decode cX1_where 9 = .ok (.getfield 22, 3) := dk_180 0 22 (dk_at dksX1_where_0 9 rfl rfl)
theorem dX1_where_12 : decode cX1_where 12 = .ok (.goto 4, 3) := dk_167 0 4 (dk_at dksX1_where_0 12 rfl rfl)
theorem dX1_where_15 : decode cX1_where 15 = .ok (.iconst (-1), 1) := dk_2 (dk_at dksX1_where_0 15 rfl rfl)
theorem dX1_where_16 : decode cX1_where 16 = .ok (.ireturn, 1) := dk_172 (dk_at dksX1_where_0 16 rfl rfl)
abbrev cX1_set : ByteArray := prog_1_method_13_code
def yX1_set : MethodName := ⟨RX1, "set", "(III)Z"⟩
def dkwX1_set_1 : List UInt8 := [184, 0, 180, 4, 172]
abbrev dktX1_set_1 : List UInt8 := dkwX1_set_1 ++ []
def dkwX1_set_0 : List UInt8 := [42, 42, 27, 28, 29, 182, 0, 172, 182, 0, 176, 154, 0, 5, 3, 172, 42, 180, 0, 39, 27, 28, 29]
abbrev dktX1_set_0 : List UInt8 := dkwX1_set_0 ++ dktX1_set_1
theorem dksX1_set_0 : cX1_set.data.toList.drop 0 = dktX1_set_0 := by decide +kernel
theorem dksX1_set_1 : cX1_set.data.toList.drop 23 = dktX1_set_1 := dk_seg dksX1_set_0 23 rfl rfl
theorem dX1_set_0 : decode cX1_set 0 = .ok (.aload_n 0, 1) := dk_42 (dk_at dksX1_set_0 0 rfl rfl)
theorem dX1_set_1 : decode cX1_set 1 = .ok (.aload_n 0, 1) := dk_42 (dk_at dksX1_set_0 1 rfl rfl)
theorem dX1_set_2 : decode cX1_set 2 = .ok (.iload_n 1, 1) := dk_27 (dk_at dksX1_set_0 2 rfl rfl)
theorem dX1_set_3 : decode cX1_set 3 = .ok (.iload_n 2, 1) := dk_28 (dk_at dksX1_set_0 3 rfl rfl)
theorem dX1_set_4 : decode cX1_set 4 = .ok (.iload_n 3, 1) := dk_29 (dk_at dksX1_set_0 4 rfl rfl)
theorem dX1_set_5 : decode cX1_set 5 = .ok (.invokevirtual 172, 3) := dk_182 0 172 (dk_at dksX1_set_0 5 rfl rfl)
theorem dX1_set_8 : decode cX1_set 8 = .ok (.invokevirtual 176, 3) := dk_182 0 176 (dk_at dksX1_set_0 8 rfl rfl)
theorem dX1_set_11 : decode cX1_set 11 = .ok (.ifCond .ne 5, 3) := dk_154 0 5 (dk_at dksX1_set_0 11 rfl rfl)
theorem dX1_set_14 : decode cX1_set 14 = .ok (.iconst 0, 1) := dk_3 (dk_at dksX1_set_0 14 rfl rfl)
theorem dX1_set_15 : decode cX1_set 15 = .ok (.ireturn, 1) := dk_172 (dk_at dksX1_set_0 15 rfl rfl)
theorem dX1_set_16 : decode cX1_set 16 = .ok (.aload_n 0, 1) := dk_42 (dk_at dksX1_set_0 16 rfl rfl)
theorem dX1_set_17 : decode cX1_set 17 = .ok (.getfield 39, 3) := dk_180 0 39 (dk_at dksX1_set_0 17 rfl rfl)
theorem dX1_set_20 : decode cX1_set 20 = .ok (.iload_n 1, 1) := dk_27 (dk_at dksX1_set_0 20 rfl rfl)
theorem dX1_set_21 : decode cX1_set 21 = .ok (.iload_n 2, 1) := dk_28 (dk_at dksX1_set_0 21 rfl rfl)
theorem dX1_set_22 : decode cX1_set 22 = .ok (.iload_n 3, 1) := dk_29 (dk_at dksX1_set_0 22 rfl rfl)
theorem dX1_set_23 : decode cX1_set 23 = .ok (.invokestatic 180, 3) := dk_184 0 180 (dk_at dksX1_set_1 0 rfl rfl)
theorem dX1_set_26 : decode cX1_set 26 = .ok (.iconst 1, 1) := dk_4 (dk_at dksX1_set_1 3 rfl rfl)
theorem dX1_set_27 : decode cX1_set 27 = .ok (.ireturn, 1) := dk_172 (dk_at dksX1_set_1 4 rfl rfl)
abbrev cX1_settingsWhy : ByteArray := prog_1_method_11_code
def yX1_settingsWhy : MethodName := ⟨RX1, "settingsWhy", "(III)I"⟩
def dkwX1_settingsWhy_2 : List UInt8 := [5, 172]
abbrev dktX1_settingsWhy_2 : List UInt8 := dkwX1_settingsWhy_2 ++ []
def dkwX1_settingsWhy_1 : List UInt8 := [4, 172, 27, 3, 6, 184, 0, 112, 153, 0, 16, 28, 3, 6, 184, 0, 112, 153, 0, 7, 3, 167, 0, 4]
abbrev dktX1_settingsWhy_1 : List UInt8 := dkwX1_settingsWhy_1 ++ dktX1_settingsWhy_2
def dkwX1_settingsWhy_0 : List UInt8 := [42, 180, 0, 127, 198, 0, 20, 29, 3, 42, 180, 0, 127, 180, 0, 160, 4, 100, 184, 0, 112, 154, 0, 5]
abbrev dktX1_settingsWhy_0 : List UInt8 := dkwX1_settingsWhy_0 ++ dktX1_settingsWhy_1
theorem dksX1_settingsWhy_0 : cX1_settingsWhy.data.toList.drop 0 = dktX1_settingsWhy_0 := by decide +kernel
theorem dksX1_settingsWhy_1 : cX1_settingsWhy.data.toList.drop 24 = dktX1_settingsWhy_1 := dk_seg dksX1_settingsWhy_0 24 rfl rfl
theorem dksX1_settingsWhy_2 : cX1_settingsWhy.data.toList.drop 48 = dktX1_settingsWhy_2 := dk_seg dksX1_settingsWhy_1 24 rfl rfl
theorem dX1_settingsWhy_0 : decode cX1_settingsWhy 0 = .ok (.aload_n 0, 1) := dk_42 (dk_at dksX1_settingsWhy_0 0 rfl rfl)
theorem dX1_settingsWhy_1 : decode cX1_settingsWhy 1 = .ok (.getfield 127, 3) := dk_180 0 127 (dk_at dksX1_settingsWhy_0 1 rfl rfl)
theorem dX1_settingsWhy_4 : decode cX1_settingsWhy 4 = .ok (.ifnull 20, 3) := dk_198 0 20 (dk_at dksX1_settingsWhy_0 4 rfl rfl)
theorem dX1_settingsWhy_7 : decode cX1_settingsWhy 7 = .ok (.iload_n 3, 1) := dk_29 (dk_at dksX1_settingsWhy_0 7 rfl rfl)
theorem dX1_settingsWhy_8 : decode cX1_settingsWhy 8 = .ok (.iconst 0, 1) := dk_3 (dk_at dksX1_settingsWhy_0 8 rfl rfl)
theorem dX1_settingsWhy_9 : decode cX1_settingsWhy 9 = .ok (.aload_n 0, 1) := dk_42 (dk_at dksX1_settingsWhy_0 9 rfl rfl)
theorem dX1_settingsWhy_10 : decode cX1_settingsWhy 10 = .ok (.getfield 127, 3) := dk_180 0 127 (dk_at dksX1_settingsWhy_0 10 rfl rfl)
theorem dX1_settingsWhy_13 : decode cX1_settingsWhy 13 = .ok (.getfield 160, 3) := dk_180 0 160 (dk_at dksX1_settingsWhy_0 13 rfl rfl)
theorem dX1_settingsWhy_16 : decode cX1_settingsWhy 16 = .ok (.iconst 1, 1) := dk_4 (dk_at dksX1_settingsWhy_0 16 rfl rfl)
theorem dX1_settingsWhy_17 : decode cX1_settingsWhy 17 = .ok (.isub, 1) := dk_100 (dk_at dksX1_settingsWhy_0 17 rfl rfl)
theorem dX1_settingsWhy_18 : decode cX1_settingsWhy 18 = .ok (.invokestatic 112, 3) := dk_184 0 112 (dk_at dksX1_settingsWhy_0 18 rfl rfl)
theorem dX1_settingsWhy_21 : decode cX1_settingsWhy 21 = .ok (.ifCond .ne 5, 3) := dk_154 0 5 (dk_at dksX1_settingsWhy_0 21 rfl rfl)
theorem dX1_settingsWhy_24 : decode cX1_settingsWhy 24 = .ok (.iconst 1, 1) := dk_4 (dk_at dksX1_settingsWhy_1 0 rfl rfl)
theorem dX1_settingsWhy_25 : decode cX1_settingsWhy 25 = .ok (.ireturn, 1) := dk_172 (dk_at dksX1_settingsWhy_1 1 rfl rfl)
theorem dX1_settingsWhy_26 : decode cX1_settingsWhy 26 = .ok (.iload_n 1, 1) := dk_27 (dk_at dksX1_settingsWhy_1 2 rfl rfl)
theorem dX1_settingsWhy_27 : decode cX1_settingsWhy 27 = .ok (.iconst 0, 1) := dk_3 (dk_at dksX1_settingsWhy_1 3 rfl rfl)
theorem dX1_settingsWhy_28 : decode cX1_settingsWhy 28 = .ok (.iconst 3, 1) := dk_6 (dk_at dksX1_settingsWhy_1 4 rfl rfl)
theorem dX1_settingsWhy_29 : decode cX1_settingsWhy 29 = .ok (.invokestatic 112, 3) := dk_184 0 112 (dk_at dksX1_settingsWhy_1 5 rfl rfl)
theorem dX1_settingsWhy_32 : decode cX1_settingsWhy 32 = .ok (.ifCond .eq 16, 3) := dk_153 0 16 (dk_at dksX1_settingsWhy_1 8 rfl rfl)
theorem dX1_settingsWhy_35 : decode cX1_settingsWhy 35 = .ok (.iload_n 2, 1) := dk_28 (dk_at dksX1_settingsWhy_1 11 rfl rfl)
theorem dX1_settingsWhy_36 : decode cX1_settingsWhy 36 = .ok (.iconst 0, 1) := dk_3 (dk_at dksX1_settingsWhy_1 12 rfl rfl)
theorem dX1_settingsWhy_37 : decode cX1_settingsWhy 37 = .ok (.iconst 3, 1) := dk_6 (dk_at dksX1_settingsWhy_1 13 rfl rfl)
theorem dX1_settingsWhy_38 : decode cX1_settingsWhy 38 = .ok (.invokestatic 112, 3) := dk_184 0 112 (dk_at dksX1_settingsWhy_1 14 rfl rfl)
theorem dX1_settingsWhy_41 : decode cX1_settingsWhy 41 = .ok (.ifCond .eq 7, 3) := dk_153 0 7 (dk_at dksX1_settingsWhy_1 17 rfl rfl)
theorem dX1_settingsWhy_44 : decode cX1_settingsWhy 44 = .ok (.iconst 0, 1) := dk_3 (dk_at dksX1_settingsWhy_1 20 rfl rfl)
theorem dX1_settingsWhy_45 : decode cX1_settingsWhy 45 = .ok (.goto 4, 3) := dk_167 0 4 (dk_at dksX1_settingsWhy_1 21 rfl rfl)
theorem dX1_settingsWhy_48 : decode cX1_settingsWhy 48 = .ok (.iconst 2, 1) := dk_5 (dk_at dksX1_settingsWhy_2 0 rfl rfl)
theorem dX1_settingsWhy_49 : decode cX1_settingsWhy 49 = .ok (.ireturn, 1) := dk_172 (dk_at dksX1_settingsWhy_2 1 rfl rfl)
abbrev cX1_yes : ByteArray := prog_1_method_5_code
def yX1_yes : MethodName := ⟨RX1, "yes", "(I)Z"⟩
def dkwX1_yes_0 : List UInt8 := [42, 182, 0, 102, 42, 27, 181, 0, 99, 27, 154, 0, 7, 4, 167, 0, 4, 3, 172]
abbrev dktX1_yes_0 : List UInt8 := dkwX1_yes_0 ++ []
theorem dksX1_yes_0 : cX1_yes.data.toList.drop 0 = dktX1_yes_0 := by decide +kernel
theorem dX1_yes_0 : decode cX1_yes 0 = .ok (.aload_n 0, 1) := dk_42 (dk_at dksX1_yes_0 0 rfl rfl)
theorem dX1_yes_1 : decode cX1_yes 1 = .ok (.invokevirtual 102, 3) := dk_182 0 102 (dk_at dksX1_yes_0 1 rfl rfl)
theorem dX1_yes_4 : decode cX1_yes 4 = .ok (.aload_n 0, 1) := dk_42 (dk_at dksX1_yes_0 4 rfl rfl)
theorem dX1_yes_5 : decode cX1_yes 5 = .ok (.iload_n 1, 1) := dk_27 (dk_at dksX1_yes_0 5 rfl rfl)
theorem dX1_yes_6 : decode cX1_yes 6 = .ok (.putfield 99, 3) := dk_181 0 99 (dk_at dksX1_yes_0 6 rfl rfl)
theorem dX1_yes_9 : decode cX1_yes 9 = .ok (.iload_n 1, 1) := dk_27 (dk_at dksX1_yes_0 9 rfl rfl)
theorem dX1_yes_10 : decode cX1_yes 10 = .ok (.ifCond .ne 7, 3) := dk_154 0 7 (dk_at dksX1_yes_0 10 rfl rfl)
theorem dX1_yes_13 : decode cX1_yes 13 = .ok (.iconst 1, 1) := dk_4 (dk_at dksX1_yes_0 13 rfl rfl)
theorem dX1_yes_14 : decode cX1_yes 14 = .ok (.goto 4, 3) := dk_167 0 4 (dk_at dksX1_yes_0 14 rfl rfl)
theorem dX1_yes_17 : decode cX1_yes 17 = .ok (.iconst 0, 1) := dk_3 (dk_at dksX1_yes_0 17 rfl rfl)
theorem dX1_yes_18 : decode cX1_yes 18 = .ok (.ireturn, 1) := dk_172 (dk_at dksX1_yes_0 18 rfl rfl)
abbrev cX1_put : ByteArray := prog_1_method_12_code
def yX1_put : MethodName := ⟨RX1, "put", "(LRoarMill$Settings;III)V"⟩
def dkwX1_put_0 : List UInt8 := [42, 27, 181, 0, 163, 42, 28, 181, 0, 166, 42, 29, 181, 0, 169, 177]
abbrev dktX1_put_0 : List UInt8 := dkwX1_put_0 ++ []
theorem dksX1_put_0 : cX1_put.data.toList.drop 0 = dktX1_put_0 := by decide +kernel
theorem dX1_put_0 : decode cX1_put 0 = .ok (.aload_n 0, 1) := dk_42 (dk_at dksX1_put_0 0 rfl rfl)
theorem dX1_put_1 : decode cX1_put 1 = .ok (.iload_n 1, 1) := dk_27 (dk_at dksX1_put_0 1 rfl rfl)
theorem dX1_put_2 : decode cX1_put 2 = .ok (.putfield 163, 3) := dk_181 0 163 (dk_at dksX1_put_0 2 rfl rfl)
theorem dX1_put_5 : decode cX1_put 5 = .ok (.aload_n 0, 1) := dk_42 (dk_at dksX1_put_0 5 rfl rfl)
theorem dX1_put_6 : decode cX1_put 6 = .ok (.iload_n 2, 1) := dk_28 (dk_at dksX1_put_0 6 rfl rfl)
theorem dX1_put_7 : decode cX1_put 7 = .ok (.putfield 166, 3) := dk_181 0 166 (dk_at dksX1_put_0 7 rfl rfl)
theorem dX1_put_10 : decode cX1_put 10 = .ok (.aload_n 0, 1) := dk_42 (dk_at dksX1_put_0 10 rfl rfl)
theorem dX1_put_11 : decode cX1_put 11 = .ok (.iload_n 3, 1) := dk_29 (dk_at dksX1_put_0 11 rfl rfl)
theorem dX1_put_12 : decode cX1_put 12 = .ok (.putfield 169, 3) := dk_181 0 169 (dk_at dksX1_put_0 12 rfl rfl)
theorem dX1_put_15 : decode cX1_put 15 = .ok (.return_, 1) := dk_177 (dk_at dksX1_put_0 15 rfl rfl)
abbrev cX1_mend : ByteArray := prog_1_method_14_code
def yX1_mend : MethodName := ⟨RX1, "mend", "(IZ)Z"⟩
def dkwX1_mend_2 : List UInt8 := [28, 153, 0, 7, 3, 167, 0, 10, 42, 180, 0, 29, 180, 0, 187, 181, 0, 187, 4, 172]
abbrev dktX1_mend_2 : List UInt8 := dkwX1_mend_2 ++ []
def dkwX1_mend_1 : List UInt8 := [167, 0, 4, 5, 182, 0, 176, 154, 0, 5, 3, 172, 42, 180, 0, 29, 27, 181, 0, 184, 42, 180, 0, 29]
abbrev dktX1_mend_1 : List UInt8 := dkwX1_mend_1 ++ dktX1_mend_2
def dkwX1_mend_0 : List UInt8 := [42, 42, 180, 0, 127, 199, 0, 7, 4, 167, 0, 17, 27, 3, 6, 184, 0, 112, 153, 0, 7, 3]
abbrev dktX1_mend_0 : List UInt8 := dkwX1_mend_0 ++ dktX1_mend_1
theorem dksX1_mend_0 : cX1_mend.data.toList.drop 0 = dktX1_mend_0 := by decide +kernel
theorem dksX1_mend_1 : cX1_mend.data.toList.drop 22 = dktX1_mend_1 := dk_seg dksX1_mend_0 22 rfl rfl
theorem dksX1_mend_2 : cX1_mend.data.toList.drop 46 = dktX1_mend_2 := dk_seg dksX1_mend_1 24 rfl rfl
theorem dX1_mend_0 : decode cX1_mend 0 = .ok (.aload_n 0, 1) := dk_42 (dk_at dksX1_mend_0 0 rfl rfl)
theorem dX1_mend_1 : decode cX1_mend 1 = .ok (.aload_n 0, 1) := dk_42 (dk_at dksX1_mend_0 1 rfl rfl)
theorem dX1_mend_2 : decode cX1_mend 2 = .ok (.getfield 127, 3) := dk_180 0 127 (dk_at dksX1_mend_0 2 rfl rfl)
theorem dX1_mend_5 : decode cX1_mend 5 = .ok (.ifnonnull 7, 3) := dk_199 0 7 (dk_at dksX1_mend_0 5 rfl rfl)
theorem dX1_mend_8 : decode cX1_mend 8 = .ok (.iconst 1, 1) := dk_4 (dk_at dksX1_mend_0 8 rfl rfl)
theorem dX1_mend_9 : decode cX1_mend 9 = .ok (.goto 17, 3) := dk_167 0 17 (dk_at dksX1_mend_0 9 rfl rfl)
theorem dX1_mend_12 : decode cX1_mend 12 = .ok (.iload_n 1, 1) := dk_27 (dk_at dksX1_mend_0 12 rfl rfl)
theorem dX1_mend_13 : decode cX1_mend 13 = .ok (.iconst 0, 1) := dk_3 (dk_at dksX1_mend_0 13 rfl rfl)
theorem dX1_mend_14 : decode cX1_mend 14 = .ok (.iconst 3, 1) := dk_6 (dk_at dksX1_mend_0 14 rfl rfl)
theorem dX1_mend_15 : decode cX1_mend 15 = .ok (.invokestatic 112, 3) := dk_184 0 112 (dk_at dksX1_mend_0 15 rfl rfl)
theorem dX1_mend_18 : decode cX1_mend 18 = .ok (.ifCond .eq 7, 3) := dk_153 0 7 (dk_at dksX1_mend_0 18 rfl rfl)
theorem dX1_mend_21 : decode cX1_mend 21 = .ok (.iconst 0, 1) := dk_3 (dk_at dksX1_mend_0 21 rfl rfl)
theorem dX1_mend_22 : decode cX1_mend 22 = .ok (.goto 4, 3) := dk_167 0 4 (dk_at dksX1_mend_1 0 rfl rfl)
theorem dX1_mend_25 : decode cX1_mend 25 = .ok (.iconst 2, 1) := dk_5 (dk_at dksX1_mend_1 3 rfl rfl)
theorem dX1_mend_26 : decode cX1_mend 26 = .ok (.invokevirtual 176, 3) := dk_182 0 176 (dk_at dksX1_mend_1 4 rfl rfl)
theorem dX1_mend_29 : decode cX1_mend 29 = .ok (.ifCond .ne 5, 3) := dk_154 0 5 (dk_at dksX1_mend_1 7 rfl rfl)
theorem dX1_mend_32 : decode cX1_mend 32 = .ok (.iconst 0, 1) := dk_3 (dk_at dksX1_mend_1 10 rfl rfl)
theorem dX1_mend_33 : decode cX1_mend 33 = .ok (.ireturn, 1) := dk_172 (dk_at dksX1_mend_1 11 rfl rfl)
theorem dX1_mend_34 : decode cX1_mend 34 = .ok (.aload_n 0, 1) := dk_42 (dk_at dksX1_mend_1 12 rfl rfl)
theorem dX1_mend_35 : decode cX1_mend 35 = .ok (.getfield 29, 3) := dk_180 0 29 (dk_at dksX1_mend_1 13 rfl rfl)
theorem dX1_mend_38 : decode cX1_mend 38 = .ok (.iload_n 1, 1) := dk_27 (dk_at dksX1_mend_1 16 rfl rfl)
theorem dX1_mend_39 : decode cX1_mend 39 = .ok (.putfield 184, 3) := dk_181 0 184 (dk_at dksX1_mend_1 17 rfl rfl)
theorem dX1_mend_42 : decode cX1_mend 42 = .ok (.aload_n 0, 1) := dk_42 (dk_at dksX1_mend_1 20 rfl rfl)
theorem dX1_mend_43 : decode cX1_mend 43 = .ok (.getfield 29, 3) := dk_180 0 29 (dk_at dksX1_mend_1 21 rfl rfl)
theorem dX1_mend_46 : decode cX1_mend 46 = .ok (.iload_n 2, 1) := dk_28 (dk_at dksX1_mend_2 0 rfl rfl)
theorem dX1_mend_47 : decode cX1_mend 47 = .ok (.ifCond .eq 7, 3) := dk_153 0 7 (dk_at dksX1_mend_2 1 rfl rfl)
theorem dX1_mend_50 : decode cX1_mend 50 = .ok (.iconst 0, 1) := dk_3 (dk_at dksX1_mend_2 4 rfl rfl)
theorem dX1_mend_51 : decode cX1_mend 51 = .ok (.goto 10, 3) := dk_167 0 10 (dk_at dksX1_mend_2 5 rfl rfl)
theorem dX1_mend_54 : decode cX1_mend 54 = .ok (.aload_n 0, 1) := dk_42 (dk_at dksX1_mend_2 8 rfl rfl)
theorem dX1_mend_55 : decode cX1_mend 55 = .ok (.getfield 29, 3) := dk_180 0 29 (dk_at dksX1_mend_2 9 rfl rfl)
theorem dX1_mend_58 : decode cX1_mend 58 = .ok (.getfield 187, 3) := dk_180 0 187 (dk_at dksX1_mend_2 12 rfl rfl)
theorem dX1_mend_61 : decode cX1_mend 61 = .ok (.putfield 187, 3) := dk_181 0 187 (dk_at dksX1_mend_2 15 rfl rfl)
theorem dX1_mend_64 : decode cX1_mend 64 = .ok (.iconst 1, 1) := dk_4 (dk_at dksX1_mend_2 18 rfl rfl)
theorem dX1_mend_65 : decode cX1_mend 65 = .ok (.ireturn, 1) := dk_172 (dk_at dksX1_mend_2 19 rfl rfl)
abbrev cX1_go : ByteArray := prog_1_method_15_code
def yX1_go : MethodName := ⟨RX1, "go", "(I)I"⟩
def dkwX1_go_5 : List UInt8 := [167, 0, 6, 132, 2, 1, 132, 3, 1, 167, 255, 188, 28, 172]
abbrev dktX1_go_5 : List UInt8 := dkwX1_go_5 ++ []
def dkwX1_go_4 : List UInt8 := [180, 0, 143, 42, 180, 0, 29, 180, 0, 190, 4, 100, 79, 42, 89, 180, 0, 143, 4, 96, 181, 0, 143]
abbrev dktX1_go_4 : List UInt8 := dkwX1_go_4 ++ dktX1_go_5
def dkwX1_go_3 : List UInt8 := [180, 0, 39, 1, 182, 0, 193, 42, 180, 0, 29, 180, 0, 197, 153, 0, 34, 42, 180, 0, 50, 42]
abbrev dktX1_go_3 : List UInt8 := dkwX1_go_3 ++ dktX1_go_4
def dkwX1_go_2 : List UInt8 := [42, 6, 182, 0, 116, 172, 3, 61, 3, 62, 29, 27, 162, 0, 69, 42, 180, 0, 29, 42, 180, 0, 127, 42]
abbrev dktX1_go_2 : List UInt8 := dkwX1_go_2 ++ dktX1_go_3
def dkwX1_go_1 : List UInt8 := [154, 0, 9, 42, 5, 182, 0, 116, 172, 42, 180, 0, 29, 180, 0, 190, 27, 96, 17, 0, 240, 164, 0, 9]
abbrev dktX1_go_1 : List UInt8 := dkwX1_go_1 ++ dktX1_go_2
def dkwX1_go_0 : List UInt8 := [42, 182, 0, 102, 42, 180, 0, 127, 199, 0, 9, 42, 4, 182, 0, 116, 172, 27, 4, 16, 24, 184, 0, 112]
abbrev dktX1_go_0 : List UInt8 := dkwX1_go_0 ++ dktX1_go_1
theorem dksX1_go_0 : cX1_go.data.toList.drop 0 = dktX1_go_0 := by decide +kernel
theorem dksX1_go_1 : cX1_go.data.toList.drop 24 = dktX1_go_1 := dk_seg dksX1_go_0 24 rfl rfl
theorem dksX1_go_2 : cX1_go.data.toList.drop 48 = dktX1_go_2 := dk_seg dksX1_go_1 24 rfl rfl
theorem dksX1_go_3 : cX1_go.data.toList.drop 72 = dktX1_go_3 := dk_seg dksX1_go_2 24 rfl rfl
theorem dksX1_go_4 : cX1_go.data.toList.drop 94 = dktX1_go_4 := dk_seg dksX1_go_3 22 rfl rfl
theorem dksX1_go_5 : cX1_go.data.toList.drop 117 = dktX1_go_5 := dk_seg dksX1_go_4 23 rfl rfl
theorem dX1_go_0 : decode cX1_go 0 = .ok (.aload_n 0, 1) := dk_42 (dk_at dksX1_go_0 0 rfl rfl)
theorem dX1_go_1 : decode cX1_go 1 = .ok (.invokevirtual 102, 3) := dk_182 0 102 (dk_at dksX1_go_0 1 rfl rfl)
theorem dX1_go_4 : decode cX1_go 4 = .ok (.aload_n 0, 1) := dk_42 (dk_at dksX1_go_0 4 rfl rfl)
theorem dX1_go_5 : decode cX1_go 5 = .ok (.getfield 127, 3) := dk_180 0 127 (dk_at dksX1_go_0 5 rfl rfl)
theorem dX1_go_8 : decode cX1_go 8 = .ok (.ifnonnull 9, 3) := dk_199 0 9 (dk_at dksX1_go_0 8 rfl rfl)
theorem dX1_go_11 : decode cX1_go 11 = .ok (.aload_n 0, 1) := dk_42 (dk_at dksX1_go_0 11 rfl rfl)
theorem dX1_go_12 : decode cX1_go 12 = .ok (.iconst 1, 1) := dk_4 (dk_at dksX1_go_0 12 rfl rfl)
theorem dX1_go_13 : decode cX1_go 13 = .ok (.invokevirtual 116, 3) := dk_182 0 116 (dk_at dksX1_go_0 13 rfl rfl)
theorem dX1_go_16 : decode cX1_go 16 = .ok (.ireturn, 1) := dk_172 (dk_at dksX1_go_0 16 rfl rfl)
theorem dX1_go_17 : decode cX1_go 17 = .ok (.iload_n 1, 1) := dk_27 (dk_at dksX1_go_0 17 rfl rfl)
theorem dX1_go_18 : decode cX1_go 18 = .ok (.iconst 1, 1) := dk_4 (dk_at dksX1_go_0 18 rfl rfl)
theorem dX1_go_19 : decode cX1_go 19 = .ok (.bipush 24, 2) := dk_16 24 (dk_at dksX1_go_0 19 rfl rfl)
theorem dX1_go_21 : decode cX1_go 21 = .ok (.invokestatic 112, 3) := dk_184 0 112 (dk_at dksX1_go_0 21 rfl rfl)
theorem dX1_go_24 : decode cX1_go 24 = .ok (.ifCond .ne 9, 3) := dk_154 0 9 (dk_at dksX1_go_1 0 rfl rfl)
theorem dX1_go_27 : decode cX1_go 27 = .ok (.aload_n 0, 1) := dk_42 (dk_at dksX1_go_1 3 rfl rfl)
theorem dX1_go_28 : decode cX1_go 28 = .ok (.iconst 2, 1) := dk_5 (dk_at dksX1_go_1 4 rfl rfl)
theorem dX1_go_29 : decode cX1_go 29 = .ok (.invokevirtual 116, 3) := dk_182 0 116 (dk_at dksX1_go_1 5 rfl rfl)
theorem dX1_go_32 : decode cX1_go 32 = .ok (.ireturn, 1) := dk_172 (dk_at dksX1_go_1 8 rfl rfl)
theorem dX1_go_33 : decode cX1_go 33 = .ok (.aload_n 0, 1) := dk_42 (dk_at dksX1_go_1 9 rfl rfl)
theorem dX1_go_34 : decode cX1_go 34 = .ok (.getfield 29, 3) := dk_180 0 29 (dk_at dksX1_go_1 10 rfl rfl)
theorem dX1_go_37 : decode cX1_go 37 = .ok (.getfield 190, 3) := dk_180 0 190 (dk_at dksX1_go_1 13 rfl rfl)
theorem dX1_go_40 : decode cX1_go 40 = .ok (.iload_n 1, 1) := dk_27 (dk_at dksX1_go_1 16 rfl rfl)
theorem dX1_go_41 : decode cX1_go 41 = .ok (.iadd, 1) := dk_96 (dk_at dksX1_go_1 17 rfl rfl)
theorem dX1_go_42 : decode cX1_go 42 = .ok (.sipush 240, 3) := dk_17 0 240 (dk_at dksX1_go_1 18 rfl rfl)
theorem dX1_go_45 : decode cX1_go 45 = .ok (.if_icmp .le 9, 3) := dk_164 0 9 (dk_at dksX1_go_1 21 rfl rfl)
theorem dX1_go_48 : decode cX1_go 48 = .ok (.aload_n 0, 1) := dk_42 (dk_at dksX1_go_2 0 rfl rfl)
theorem dX1_go_49 : decode cX1_go 49 = .ok (.iconst 3, 1) := dk_6 (dk_at dksX1_go_2 1 rfl rfl)
theorem dX1_go_50 : decode cX1_go 50 = .ok (.invokevirtual 116, 3) := dk_182 0 116 (dk_at dksX1_go_2 2 rfl rfl)
theorem dX1_go_53 : decode cX1_go 53 = .ok (.ireturn, 1) := dk_172 (dk_at dksX1_go_2 5 rfl rfl)
theorem dX1_go_54 : decode cX1_go 54 = .ok (.iconst 0, 1) := dk_3 (dk_at dksX1_go_2 6 rfl rfl)
theorem dX1_go_55 : decode cX1_go 55 = .ok (.istore_n 2, 1) := dk_61 (dk_at dksX1_go_2 7 rfl rfl)
theorem dX1_go_56 : decode cX1_go 56 = .ok (.iconst 0, 1) := dk_3 (dk_at dksX1_go_2 8 rfl rfl)
theorem dX1_go_57 : decode cX1_go 57 = .ok (.istore_n 3, 1) := dk_62 (dk_at dksX1_go_2 9 rfl rfl)
theorem dX1_go_58 : decode cX1_go 58 = .ok (.iload_n 3, 1) := dk_29 (dk_at dksX1_go_2 10 rfl rfl)
theorem dX1_go_59 : decode cX1_go 59 = .ok (.iload_n 1, 1) := dk_27 (dk_at dksX1_go_2 11 rfl rfl)
theorem dX1_go_60 : decode cX1_go 60 = .ok (.if_icmp .ge 69, 3) := dk_162 0 69 (dk_at dksX1_go_2 12 rfl rfl)
theorem dX1_go_63 : decode cX1_go 63 = .ok (.aload_n 0, 1) := dk_42 (dk_at dksX1_go_2 15 rfl rfl)
theorem dX1_go_64 : decode cX1_go 64 = .ok (.getfield 29, 3) := dk_180 0 29 (dk_at dksX1_go_2 16 rfl rfl)
theorem dX1_go_67 : decode cX1_go 67 = .ok (.aload_n 0, 1) := dk_42 (dk_at dksX1_go_2 19 rfl rfl)
theorem dX1_go_68 : decode cX1_go 68 = .ok (.getfield 127, 3) := dk_180 0 127 (dk_at dksX1_go_2 20 rfl rfl)
theorem dX1_go_71 : decode cX1_go 71 = .ok (.aload_n 0, 1) := dk_42 (dk_at dksX1_go_2 23 rfl rfl)
theorem dX1_go_72 : decode cX1_go 72 = .ok (.getfield 39, 3) := dk_180 0 39 (dk_at dksX1_go_3 0 rfl rfl)
theorem dX1_go_75 : decode cX1_go 75 = .ok (.aconst_null, 1) := dk_1 (dk_at dksX1_go_3 3 rfl rfl)
theorem dX1_go_76 : decode cX1_go 76 = .ok (.invokevirtual 193, 3) := dk_182 0 193 (dk_at dksX1_go_3 4 rfl rfl)
theorem dX1_go_79 : decode cX1_go 79 = .ok (.aload_n 0, 1) := dk_42 (dk_at dksX1_go_3 7 rfl rfl)
theorem dX1_go_80 : decode cX1_go 80 = .ok (.getfield 29, 3) := dk_180 0 29 (dk_at dksX1_go_3 8 rfl rfl)
theorem dX1_go_83 : decode cX1_go 83 = .ok (.getfield 197, 3) := dk_180 0 197 (dk_at dksX1_go_3 11 rfl rfl)
theorem dX1_go_86 : decode cX1_go 86 = .ok (.ifCond .eq 34, 3) := dk_153 0 34 (dk_at dksX1_go_3 14 rfl rfl)
theorem dX1_go_89 : decode cX1_go 89 = .ok (.aload_n 0, 1) := dk_42 (dk_at dksX1_go_3 17 rfl rfl)
theorem dX1_go_90 : decode cX1_go 90 = .ok (.getfield 50, 3) := dk_180 0 50 (dk_at dksX1_go_3 18 rfl rfl)
theorem dX1_go_93 : decode cX1_go 93 = .ok (.aload_n 0, 1) := dk_42 (dk_at dksX1_go_3 21 rfl rfl)
theorem dX1_go_94 : decode cX1_go 94 = .ok (.getfield 143, 3) := dk_180 0 143 (dk_at dksX1_go_4 0 rfl rfl)
theorem dX1_go_97 : decode cX1_go 97 = .ok (.aload_n 0, 1) := dk_42 (dk_at dksX1_go_4 3 rfl rfl)
theorem dX1_go_98 : decode cX1_go 98 = .ok (.getfield 29, 3) := dk_180 0 29 (dk_at dksX1_go_4 4 rfl rfl)
theorem dX1_go_101 : decode cX1_go 101 = .ok (.getfield 190, 3) := dk_180 0 190 (dk_at dksX1_go_4 7 rfl rfl)
theorem dX1_go_104 : decode cX1_go 104 = .ok (.iconst 1, 1) := dk_4 (dk_at dksX1_go_4 10 rfl rfl)
theorem dX1_go_105 : decode cX1_go 105 = .ok (.isub, 1) := dk_100 (dk_at dksX1_go_4 11 rfl rfl)
theorem dX1_go_106 : decode cX1_go 106 = .ok (.iastore, 1) := dk_79 (dk_at dksX1_go_4 12 rfl rfl)
theorem dX1_go_107 : decode cX1_go 107 = .ok (.aload_n 0, 1) := dk_42 (dk_at dksX1_go_4 13 rfl rfl)
theorem dX1_go_108 : decode cX1_go 108 = .ok (.dup, 1) := dk_89 (dk_at dksX1_go_4 14 rfl rfl)
theorem dX1_go_109 : decode cX1_go 109 = .ok (.getfield 143, 3) := dk_180 0 143 (dk_at dksX1_go_4 15 rfl rfl)
theorem dX1_go_112 : decode cX1_go 112 = .ok (.iconst 1, 1) := dk_4 (dk_at dksX1_go_4 18 rfl rfl)
theorem dX1_go_113 : decode cX1_go 113 = .ok (.iadd, 1) := dk_96 (dk_at dksX1_go_4 19 rfl rfl)
theorem dX1_go_114 : decode cX1_go 114 = .ok (.putfield 143, 3) := dk_181 0 143 (dk_at dksX1_go_4 20 rfl rfl)
theorem dX1_go_117 : decode cX1_go 117 = .ok (.goto 6, 3) := dk_167 0 6 (dk_at dksX1_go_5 0 rfl rfl)
theorem dX1_go_120 : decode cX1_go 120 = .ok (.iinc 2 1, 3) := dk_132 2 1 (dk_at dksX1_go_5 3 rfl rfl)
theorem dX1_go_123 : decode cX1_go 123 = .ok (.iinc 3 1, 3) := dk_132 3 1 (dk_at dksX1_go_5 6 rfl rfl)
theorem dX1_go_126 : decode cX1_go 126 = .ok (.goto (-68), 3) := dk_167 255 188 (dk_at dksX1_go_5 9 rfl rfl)
theorem dX1_go_129 : decode cX1_go 129 = .ok (.iload_n 2, 1) := dk_28 (dk_at dksX1_go_5 12 rfl rfl)
theorem dX1_go_130 : decode cX1_go 130 = .ok (.ireturn, 1) := dk_172 (dk_at dksX1_go_5 13 rfl rfl)
abbrev cX1_tons : ByteArray := prog_1_method_16_code
def yX1_tons : MethodName := ⟨RX1, "tons", "(II)I"⟩
def dkwX1_tons_4 : List UInt8 := [180, 0, 207, 27, 46, 172, 42, 180, 0, 29, 180, 0, 210, 27, 46, 172, 2, 172]
abbrev dktX1_tons_4 : List UInt8 := dkwX1_tons_4 ++ []
def dkwX1_tons_3 : List UInt8 := [42, 180, 0, 29, 180, 0, 201, 27, 46, 172, 42, 180, 0, 29, 180, 0, 204, 27, 46, 172, 42, 180, 0, 29]
abbrev dktX1_tons_3 : List UInt8 := dkwX1_tons_3 ++ dktX1_tons_4
def dkwX1_tons_2 : List UInt8 := [170, 0, 0, 0, 69, 0, 0, 0, 0, 0, 0, 0, 3, 0, 0, 0, 29, 0, 0, 0, 39, 0, 0, 0, 49, 0, 0, 0, 59]
abbrev dktX1_tons_2 : List UInt8 := dkwX1_tons_2 ++ dktX1_tons_3
def dkwX1_tons_1 : List UInt8 := [2, 172, 28]
abbrev dktX1_tons_1 : List UInt8 := dkwX1_tons_1 ++ dktX1_tons_2
def dkwX1_tons_0 : List UInt8 := [42, 180, 0, 127, 198, 0, 20, 27, 3, 42, 180, 0, 127, 180, 0, 155, 4, 100, 184, 0, 112, 154, 0, 5]
abbrev dktX1_tons_0 : List UInt8 := dkwX1_tons_0 ++ dktX1_tons_1
theorem dksX1_tons_0 : cX1_tons.data.toList.drop 0 = dktX1_tons_0 := by decide +kernel
theorem dksX1_tons_1 : cX1_tons.data.toList.drop 24 = dktX1_tons_1 := dk_seg dksX1_tons_0 24 rfl rfl
theorem dksX1_tons_2 : cX1_tons.data.toList.drop 27 = dktX1_tons_2 := dk_seg dksX1_tons_1 3 rfl rfl
theorem dksX1_tons_3 : cX1_tons.data.toList.drop 56 = dktX1_tons_3 := dk_seg dksX1_tons_2 29 rfl rfl
theorem dksX1_tons_4 : cX1_tons.data.toList.drop 80 = dktX1_tons_4 := dk_seg dksX1_tons_3 24 rfl rfl
theorem dX1_tons_0 : decode cX1_tons 0 = .ok (.aload_n 0, 1) := dk_42 (dk_at dksX1_tons_0 0 rfl rfl)
theorem dX1_tons_1 : decode cX1_tons 1 = .ok (.getfield 127, 3) := dk_180 0 127 (dk_at dksX1_tons_0 1 rfl rfl)
theorem dX1_tons_4 : decode cX1_tons 4 = .ok (.ifnull 20, 3) := dk_198 0 20 (dk_at dksX1_tons_0 4 rfl rfl)
theorem dX1_tons_7 : decode cX1_tons 7 = .ok (.iload_n 1, 1) := dk_27 (dk_at dksX1_tons_0 7 rfl rfl)
theorem dX1_tons_8 : decode cX1_tons 8 = .ok (.iconst 0, 1) := dk_3 (dk_at dksX1_tons_0 8 rfl rfl)
theorem dX1_tons_9 : decode cX1_tons 9 = .ok (.aload_n 0, 1) := dk_42 (dk_at dksX1_tons_0 9 rfl rfl)
theorem dX1_tons_10 : decode cX1_tons 10 = .ok (.getfield 127, 3) := dk_180 0 127 (dk_at dksX1_tons_0 10 rfl rfl)
theorem dX1_tons_13 : decode cX1_tons 13 = .ok (.getfield 155, 3) := dk_180 0 155 (dk_at dksX1_tons_0 13 rfl rfl)
theorem dX1_tons_16 : decode cX1_tons 16 = .ok (.iconst 1, 1) := dk_4 (dk_at dksX1_tons_0 16 rfl rfl)
theorem dX1_tons_17 : decode cX1_tons 17 = .ok (.isub, 1) := dk_100 (dk_at dksX1_tons_0 17 rfl rfl)
theorem dX1_tons_18 : decode cX1_tons 18 = .ok (.invokestatic 112, 3) := dk_184 0 112 (dk_at dksX1_tons_0 18 rfl rfl)
theorem dX1_tons_21 : decode cX1_tons 21 = .ok (.ifCond .ne 5, 3) := dk_154 0 5 (dk_at dksX1_tons_0 21 rfl rfl)
theorem dX1_tons_24 : decode cX1_tons 24 = .ok (.iconst (-1), 1) := dk_2 (dk_at dksX1_tons_1 0 rfl rfl)
theorem dX1_tons_25 : decode cX1_tons 25 = .ok (.ireturn, 1) := dk_172 (dk_at dksX1_tons_1 1 rfl rfl)
theorem dX1_tons_26 : decode cX1_tons 26 = .ok (.iload_n 2, 1) := dk_28 (dk_at dksX1_tons_1 2 rfl rfl)
theorem dX1_tons_27 : decode cX1_tons 27 = .ok (.tableswitch 69 0 3 #[29, 39, 49, 59], 29) := by decide +kernel
theorem dX1_tons_56 : decode cX1_tons 56 = .ok (.aload_n 0, 1) := dk_42 (dk_at dksX1_tons_3 0 rfl rfl)
theorem dX1_tons_57 : decode cX1_tons 57 = .ok (.getfield 29, 3) := dk_180 0 29 (dk_at dksX1_tons_3 1 rfl rfl)
theorem dX1_tons_60 : decode cX1_tons 60 = .ok (.getfield 201, 3) := dk_180 0 201 (dk_at dksX1_tons_3 4 rfl rfl)
theorem dX1_tons_63 : decode cX1_tons 63 = .ok (.iload_n 1, 1) := dk_27 (dk_at dksX1_tons_3 7 rfl rfl)
theorem dX1_tons_64 : decode cX1_tons 64 = .ok (.iaload, 1) := dk_46 (dk_at dksX1_tons_3 8 rfl rfl)
theorem dX1_tons_65 : decode cX1_tons 65 = .ok (.ireturn, 1) := dk_172 (dk_at dksX1_tons_3 9 rfl rfl)
theorem dX1_tons_66 : decode cX1_tons 66 = .ok (.aload_n 0, 1) := dk_42 (dk_at dksX1_tons_3 10 rfl rfl)
theorem dX1_tons_67 : decode cX1_tons 67 = .ok (.getfield 29, 3) := dk_180 0 29 (dk_at dksX1_tons_3 11 rfl rfl)
theorem dX1_tons_70 : decode cX1_tons 70 = .ok (.getfield 204, 3) := dk_180 0 204 (dk_at dksX1_tons_3 14 rfl rfl)
theorem dX1_tons_73 : decode cX1_tons 73 = .ok (.iload_n 1, 1) := dk_27 (dk_at dksX1_tons_3 17 rfl rfl)
theorem dX1_tons_74 : decode cX1_tons 74 = .ok (.iaload, 1) := dk_46 (dk_at dksX1_tons_3 18 rfl rfl)
theorem dX1_tons_75 : decode cX1_tons 75 = .ok (.ireturn, 1) := dk_172 (dk_at dksX1_tons_3 19 rfl rfl)
theorem dX1_tons_76 : decode cX1_tons 76 = .ok (.aload_n 0, 1) := dk_42 (dk_at dksX1_tons_3 20 rfl rfl)
theorem dX1_tons_77 : decode cX1_tons 77 = .ok (.getfield 29, 3) := dk_180 0 29 (dk_at dksX1_tons_3 21 rfl rfl)
theorem dX1_tons_80 : decode cX1_tons 80 = .ok (.getfield 207, 3) := dk_180 0 207 (dk_at dksX1_tons_4 0 rfl rfl)
theorem dX1_tons_83 : decode cX1_tons 83 = .ok (.iload_n 1, 1) := dk_27 (dk_at dksX1_tons_4 3 rfl rfl)
theorem dX1_tons_84 : decode cX1_tons 84 = .ok (.iaload, 1) := dk_46 (dk_at dksX1_tons_4 4 rfl rfl)
theorem dX1_tons_85 : decode cX1_tons 85 = .ok (.ireturn, 1) := dk_172 (dk_at dksX1_tons_4 5 rfl rfl)
theorem dX1_tons_86 : decode cX1_tons 86 = .ok (.aload_n 0, 1) := dk_42 (dk_at dksX1_tons_4 6 rfl rfl)
theorem dX1_tons_87 : decode cX1_tons 87 = .ok (.getfield 29, 3) := dk_180 0 29 (dk_at dksX1_tons_4 7 rfl rfl)
theorem dX1_tons_90 : decode cX1_tons 90 = .ok (.getfield 210, 3) := dk_180 0 210 (dk_at dksX1_tons_4 10 rfl rfl)
theorem dX1_tons_93 : decode cX1_tons 93 = .ok (.iload_n 1, 1) := dk_27 (dk_at dksX1_tons_4 13 rfl rfl)
theorem dX1_tons_94 : decode cX1_tons 94 = .ok (.iaload, 1) := dk_46 (dk_at dksX1_tons_4 14 rfl rfl)
theorem dX1_tons_95 : decode cX1_tons 95 = .ok (.ireturn, 1) := dk_172 (dk_at dksX1_tons_4 15 rfl rfl)
theorem dX1_tons_96 : decode cX1_tons 96 = .ok (.iconst (-1), 1) := dk_2 (dk_at dksX1_tons_4 16 rfl rfl)
theorem dX1_tons_97 : decode cX1_tons 97 = .ok (.ireturn, 1) := dk_172 (dk_at dksX1_tons_4 17 rfl rfl)
abbrev cX1_state : ByteArray := prog_1_method_17_code
def yX1_state : MethodName := ⟨RX1, "state", "(I)I"⟩
def dkwX1_state_8 : List UInt8 := [172, 2, 172]
abbrev dktX1_state_8 : List UInt8 := dkwX1_state_8 ++ []
def dkwX1_state_7 : List UInt8 := [172, 42, 180, 0, 39, 180, 0, 163, 172, 42, 180, 0, 39, 180, 0, 166, 172, 42, 180, 0, 39, 180, 0, 169]
abbrev dktX1_state_7 : List UInt8 := dkwX1_state_7 ++ dktX1_state_8
def dkwX1_state_6 : List UInt8 := [42, 180, 0, 29, 180, 0, 234, 172, 42, 180, 0, 29, 180, 0, 237, 136, 172, 42, 180, 0, 29, 180, 0, 241]
abbrev dktX1_state_6 : List UInt8 := dkwX1_state_6 ++ dktX1_state_7
def dkwX1_state_5 : List UInt8 := [42, 180, 0, 29, 180, 0, 225, 172, 42, 180, 0, 29, 180, 0, 228, 172, 42, 180, 0, 29, 180, 0, 231, 172]
abbrev dktX1_state_5 : List UInt8 := dkwX1_state_5 ++ dktX1_state_6
def dkwX1_state_4 : List UInt8 := [42, 180, 0, 29, 180, 0, 197, 153, 0, 7, 4, 167, 0, 4, 3, 172, 42, 180, 0, 29, 180, 0, 190, 172]
abbrev dktX1_state_4 : List UInt8 := dkwX1_state_4 ++ dktX1_state_5
def dkwX1_state_3 : List UInt8 := [42, 180, 0, 29, 180, 0, 222, 172, 42, 180, 0, 29, 180, 0, 187, 172, 42, 180, 0, 29, 180, 0, 184, 172]
abbrev dktX1_state_3 : List UInt8 := dkwX1_state_3 ++ dktX1_state_4
def dkwX1_state_2 : List UInt8 := [42, 180, 0, 29, 180, 0, 213, 172, 42, 180, 0, 29, 180, 0, 216, 172, 42, 180, 0, 29, 180, 0, 219, 172]
abbrev dktX1_state_2 : List UInt8 := dkwX1_state_2 ++ dktX1_state_3
def dkwX1_state_1 : List UInt8 := [170, 0, 0, 0, 0, 0, 0, 229, 0, 0, 0, 0, 0, 0, 0, 16, 0, 0, 0, 84, 0, 0, 0, 92, 0, 0, 0, 100, 0, 0, 0, 108, 0, 0, 0, 116, 0, 0, 0, 124, 0, 0, 0, 132, 0, 0, 0, 148, 0, 0, 0, 156, 0, 0, 0, 164, 0, 0, 0, 172, 0, 0, 0, 180, 0, 0, 0, 188, 0, 0, 0, 197, 0, 0, 0, 205, 0, 0, 0, 213, 0, 0, 0, 221]
abbrev dktX1_state_1 : List UInt8 := dkwX1_state_1 ++ dktX1_state_2
def dkwX1_state_0 : List UInt8 := [42, 180, 0, 127, 199, 0, 19, 27, 3, 16, 16, 184, 0, 112, 153, 0, 7, 3, 167, 0, 4, 2, 172, 27]
abbrev dktX1_state_0 : List UInt8 := dkwX1_state_0 ++ dktX1_state_1
theorem dksX1_state_0 : cX1_state.data.toList.drop 0 = dktX1_state_0 := by decide +kernel
theorem dksX1_state_1 : cX1_state.data.toList.drop 24 = dktX1_state_1 := dk_seg dksX1_state_0 24 rfl rfl
theorem dksX1_state_2 : cX1_state.data.toList.drop 108 = dktX1_state_2 := dk_seg dksX1_state_1 84 rfl rfl
theorem dksX1_state_3 : cX1_state.data.toList.drop 132 = dktX1_state_3 := dk_seg dksX1_state_2 24 rfl rfl
theorem dksX1_state_4 : cX1_state.data.toList.drop 156 = dktX1_state_4 := dk_seg dksX1_state_3 24 rfl rfl
theorem dksX1_state_5 : cX1_state.data.toList.drop 180 = dktX1_state_5 := dk_seg dksX1_state_4 24 rfl rfl
theorem dksX1_state_6 : cX1_state.data.toList.drop 204 = dktX1_state_6 := dk_seg dksX1_state_5 24 rfl rfl
theorem dksX1_state_7 : cX1_state.data.toList.drop 228 = dktX1_state_7 := dk_seg dksX1_state_6 24 rfl rfl
theorem dksX1_state_8 : cX1_state.data.toList.drop 252 = dktX1_state_8 := dk_seg dksX1_state_7 24 rfl rfl
theorem dX1_state_0 : decode cX1_state 0 = .ok (.aload_n 0, 1) := dk_42 (dk_at dksX1_state_0 0 rfl rfl)
theorem dX1_state_1 : decode cX1_state 1 = .ok (.getfield 127, 3) := dk_180 0 127 (dk_at dksX1_state_0 1 rfl rfl)
theorem dX1_state_4 : decode cX1_state 4 = .ok (.ifnonnull 19, 3) := dk_199 0 19 (dk_at dksX1_state_0 4 rfl rfl)
theorem dX1_state_7 : decode cX1_state 7 = .ok (.iload_n 1, 1) := dk_27 (dk_at dksX1_state_0 7 rfl rfl)
theorem dX1_state_8 : decode cX1_state 8 = .ok (.iconst 0, 1) := dk_3 (dk_at dksX1_state_0 8 rfl rfl)
theorem dX1_state_9 : decode cX1_state 9 = .ok (.bipush 16, 2) := dk_16 16 (dk_at dksX1_state_0 9 rfl rfl)
theorem dX1_state_11 : decode cX1_state 11 = .ok (.invokestatic 112, 3) := dk_184 0 112 (dk_at dksX1_state_0 11 rfl rfl)
theorem dX1_state_14 : decode cX1_state 14 = .ok (.ifCond .eq 7, 3) := dk_153 0 7 (dk_at dksX1_state_0 14 rfl rfl)
theorem dX1_state_17 : decode cX1_state 17 = .ok (.iconst 0, 1) := dk_3 (dk_at dksX1_state_0 17 rfl rfl)
theorem dX1_state_18 : decode cX1_state 18 = .ok (.goto 4, 3) := dk_167 0 4 (dk_at dksX1_state_0 18 rfl rfl)
theorem dX1_state_21 : decode cX1_state 21 = .ok (.iconst (-1), 1) := dk_2 (dk_at dksX1_state_0 21 rfl rfl)
theorem dX1_state_22 : decode cX1_state 22 = .ok (.ireturn, 1) := dk_172 (dk_at dksX1_state_0 22 rfl rfl)
theorem dX1_state_23 : decode cX1_state 23 = .ok (.iload_n 1, 1) := dk_27 (dk_at dksX1_state_0 23 rfl rfl)
theorem dX1_state_24 : decode cX1_state 24 = .ok (.tableswitch 229 0 16 #[84, 92, 100, 108, 116, 124, 132, 148, 156, 164, 172, 180, 188, 197, 205, 213, 221], 84) := by decide +kernel
theorem dX1_state_108 : decode cX1_state 108 = .ok (.aload_n 0, 1) := dk_42 (dk_at dksX1_state_2 0 rfl rfl)
theorem dX1_state_109 : decode cX1_state 109 = .ok (.getfield 29, 3) := dk_180 0 29 (dk_at dksX1_state_2 1 rfl rfl)
theorem dX1_state_112 : decode cX1_state 112 = .ok (.getfield 213, 3) := dk_180 0 213 (dk_at dksX1_state_2 4 rfl rfl)
theorem dX1_state_115 : decode cX1_state 115 = .ok (.ireturn, 1) := dk_172 (dk_at dksX1_state_2 7 rfl rfl)
theorem dX1_state_116 : decode cX1_state 116 = .ok (.aload_n 0, 1) := dk_42 (dk_at dksX1_state_2 8 rfl rfl)
theorem dX1_state_117 : decode cX1_state 117 = .ok (.getfield 29, 3) := dk_180 0 29 (dk_at dksX1_state_2 9 rfl rfl)
theorem dX1_state_120 : decode cX1_state 120 = .ok (.getfield 216, 3) := dk_180 0 216 (dk_at dksX1_state_2 12 rfl rfl)
theorem dX1_state_123 : decode cX1_state 123 = .ok (.ireturn, 1) := dk_172 (dk_at dksX1_state_2 15 rfl rfl)
theorem dX1_state_124 : decode cX1_state 124 = .ok (.aload_n 0, 1) := dk_42 (dk_at dksX1_state_2 16 rfl rfl)
theorem dX1_state_125 : decode cX1_state 125 = .ok (.getfield 29, 3) := dk_180 0 29 (dk_at dksX1_state_2 17 rfl rfl)
theorem dX1_state_128 : decode cX1_state 128 = .ok (.getfield 219, 3) := dk_180 0 219 (dk_at dksX1_state_2 20 rfl rfl)
theorem dX1_state_131 : decode cX1_state 131 = .ok (.ireturn, 1) := dk_172 (dk_at dksX1_state_2 23 rfl rfl)
theorem dX1_state_132 : decode cX1_state 132 = .ok (.aload_n 0, 1) := dk_42 (dk_at dksX1_state_3 0 rfl rfl)
theorem dX1_state_133 : decode cX1_state 133 = .ok (.getfield 29, 3) := dk_180 0 29 (dk_at dksX1_state_3 1 rfl rfl)
theorem dX1_state_136 : decode cX1_state 136 = .ok (.getfield 222, 3) := dk_180 0 222 (dk_at dksX1_state_3 4 rfl rfl)
theorem dX1_state_139 : decode cX1_state 139 = .ok (.ireturn, 1) := dk_172 (dk_at dksX1_state_3 7 rfl rfl)
theorem dX1_state_140 : decode cX1_state 140 = .ok (.aload_n 0, 1) := dk_42 (dk_at dksX1_state_3 8 rfl rfl)
theorem dX1_state_141 : decode cX1_state 141 = .ok (.getfield 29, 3) := dk_180 0 29 (dk_at dksX1_state_3 9 rfl rfl)
theorem dX1_state_144 : decode cX1_state 144 = .ok (.getfield 187, 3) := dk_180 0 187 (dk_at dksX1_state_3 12 rfl rfl)
theorem dX1_state_147 : decode cX1_state 147 = .ok (.ireturn, 1) := dk_172 (dk_at dksX1_state_3 15 rfl rfl)
theorem dX1_state_148 : decode cX1_state 148 = .ok (.aload_n 0, 1) := dk_42 (dk_at dksX1_state_3 16 rfl rfl)
theorem dX1_state_149 : decode cX1_state 149 = .ok (.getfield 29, 3) := dk_180 0 29 (dk_at dksX1_state_3 17 rfl rfl)
theorem dX1_state_152 : decode cX1_state 152 = .ok (.getfield 184, 3) := dk_180 0 184 (dk_at dksX1_state_3 20 rfl rfl)
theorem dX1_state_155 : decode cX1_state 155 = .ok (.ireturn, 1) := dk_172 (dk_at dksX1_state_3 23 rfl rfl)
theorem dX1_state_156 : decode cX1_state 156 = .ok (.aload_n 0, 1) := dk_42 (dk_at dksX1_state_4 0 rfl rfl)
theorem dX1_state_157 : decode cX1_state 157 = .ok (.getfield 29, 3) := dk_180 0 29 (dk_at dksX1_state_4 1 rfl rfl)
theorem dX1_state_160 : decode cX1_state 160 = .ok (.getfield 197, 3) := dk_180 0 197 (dk_at dksX1_state_4 4 rfl rfl)
theorem dX1_state_163 : decode cX1_state 163 = .ok (.ifCond .eq 7, 3) := dk_153 0 7 (dk_at dksX1_state_4 7 rfl rfl)
theorem dX1_state_166 : decode cX1_state 166 = .ok (.iconst 1, 1) := dk_4 (dk_at dksX1_state_4 10 rfl rfl)
theorem dX1_state_167 : decode cX1_state 167 = .ok (.goto 4, 3) := dk_167 0 4 (dk_at dksX1_state_4 11 rfl rfl)
theorem dX1_state_170 : decode cX1_state 170 = .ok (.iconst 0, 1) := dk_3 (dk_at dksX1_state_4 14 rfl rfl)
theorem dX1_state_171 : decode cX1_state 171 = .ok (.ireturn, 1) := dk_172 (dk_at dksX1_state_4 15 rfl rfl)
theorem dX1_state_172 : decode cX1_state 172 = .ok (.aload_n 0, 1) := dk_42 (dk_at dksX1_state_4 16 rfl rfl)
theorem dX1_state_173 : decode cX1_state 173 = .ok (.getfield 29, 3) := dk_180 0 29 (dk_at dksX1_state_4 17 rfl rfl)
theorem dX1_state_176 : decode cX1_state 176 = .ok (.getfield 190, 3) := dk_180 0 190 (dk_at dksX1_state_4 20 rfl rfl)
theorem dX1_state_179 : decode cX1_state 179 = .ok (.ireturn, 1) := dk_172 (dk_at dksX1_state_4 23 rfl rfl)
theorem dX1_state_180 : decode cX1_state 180 = .ok (.aload_n 0, 1) := dk_42 (dk_at dksX1_state_5 0 rfl rfl)
theorem dX1_state_181 : decode cX1_state 181 = .ok (.getfield 29, 3) := dk_180 0 29 (dk_at dksX1_state_5 1 rfl rfl)
theorem dX1_state_184 : decode cX1_state 184 = .ok (.getfield 225, 3) := dk_180 0 225 (dk_at dksX1_state_5 4 rfl rfl)
theorem dX1_state_187 : decode cX1_state 187 = .ok (.ireturn, 1) := dk_172 (dk_at dksX1_state_5 7 rfl rfl)
theorem dX1_state_188 : decode cX1_state 188 = .ok (.aload_n 0, 1) := dk_42 (dk_at dksX1_state_5 8 rfl rfl)
theorem dX1_state_189 : decode cX1_state 189 = .ok (.getfield 29, 3) := dk_180 0 29 (dk_at dksX1_state_5 9 rfl rfl)
theorem dX1_state_192 : decode cX1_state 192 = .ok (.getfield 228, 3) := dk_180 0 228 (dk_at dksX1_state_5 12 rfl rfl)
theorem dX1_state_195 : decode cX1_state 195 = .ok (.ireturn, 1) := dk_172 (dk_at dksX1_state_5 15 rfl rfl)
theorem dX1_state_196 : decode cX1_state 196 = .ok (.aload_n 0, 1) := dk_42 (dk_at dksX1_state_5 16 rfl rfl)
theorem dX1_state_197 : decode cX1_state 197 = .ok (.getfield 29, 3) := dk_180 0 29 (dk_at dksX1_state_5 17 rfl rfl)
theorem dX1_state_200 : decode cX1_state 200 = .ok (.getfield 231, 3) := dk_180 0 231 (dk_at dksX1_state_5 20 rfl rfl)
theorem dX1_state_203 : decode cX1_state 203 = .ok (.ireturn, 1) := dk_172 (dk_at dksX1_state_5 23 rfl rfl)
theorem dX1_state_204 : decode cX1_state 204 = .ok (.aload_n 0, 1) := dk_42 (dk_at dksX1_state_6 0 rfl rfl)
theorem dX1_state_205 : decode cX1_state 205 = .ok (.getfield 29, 3) := dk_180 0 29 (dk_at dksX1_state_6 1 rfl rfl)
theorem dX1_state_208 : decode cX1_state 208 = .ok (.getfield 234, 3) := dk_180 0 234 (dk_at dksX1_state_6 4 rfl rfl)
theorem dX1_state_211 : decode cX1_state 211 = .ok (.ireturn, 1) := dk_172 (dk_at dksX1_state_6 7 rfl rfl)
theorem dX1_state_212 : decode cX1_state 212 = .ok (.aload_n 0, 1) := dk_42 (dk_at dksX1_state_6 8 rfl rfl)
theorem dX1_state_213 : decode cX1_state 213 = .ok (.getfield 29, 3) := dk_180 0 29 (dk_at dksX1_state_6 9 rfl rfl)
theorem dX1_state_216 : decode cX1_state 216 = .ok (.getfield 237, 3) := dk_180 0 237 (dk_at dksX1_state_6 12 rfl rfl)
theorem dX1_state_219 : decode cX1_state 219 = .ok (.l2i, 1) := dk_136 (dk_at dksX1_state_6 15 rfl rfl)
theorem dX1_state_220 : decode cX1_state 220 = .ok (.ireturn, 1) := dk_172 (dk_at dksX1_state_6 16 rfl rfl)
theorem dX1_state_221 : decode cX1_state 221 = .ok (.aload_n 0, 1) := dk_42 (dk_at dksX1_state_6 17 rfl rfl)
theorem dX1_state_222 : decode cX1_state 222 = .ok (.getfield 29, 3) := dk_180 0 29 (dk_at dksX1_state_6 18 rfl rfl)
theorem dX1_state_225 : decode cX1_state 225 = .ok (.getfield 241, 3) := dk_180 0 241 (dk_at dksX1_state_6 21 rfl rfl)
theorem dX1_state_228 : decode cX1_state 228 = .ok (.ireturn, 1) := dk_172 (dk_at dksX1_state_7 0 rfl rfl)
theorem dX1_state_229 : decode cX1_state 229 = .ok (.aload_n 0, 1) := dk_42 (dk_at dksX1_state_7 1 rfl rfl)
theorem dX1_state_230 : decode cX1_state 230 = .ok (.getfield 39, 3) := dk_180 0 39 (dk_at dksX1_state_7 2 rfl rfl)
theorem dX1_state_233 : decode cX1_state 233 = .ok (.getfield 163, 3) := dk_180 0 163 (dk_at dksX1_state_7 5 rfl rfl)
theorem dX1_state_236 : decode cX1_state 236 = .ok (.ireturn, 1) := dk_172 (dk_at dksX1_state_7 8 rfl rfl)
theorem dX1_state_237 : decode cX1_state 237 = .ok (.aload_n 0, 1) := dk_42 (dk_at dksX1_state_7 9 rfl rfl)
theorem dX1_state_238 : decode cX1_state 238 = .ok (.getfield 39, 3) := dk_180 0 39 (dk_at dksX1_state_7 10 rfl rfl)
theorem dX1_state_241 : decode cX1_state 241 = .ok (.getfield 166, 3) := dk_180 0 166 (dk_at dksX1_state_7 13 rfl rfl)
theorem dX1_state_244 : decode cX1_state 244 = .ok (.ireturn, 1) := dk_172 (dk_at dksX1_state_7 16 rfl rfl)
theorem dX1_state_245 : decode cX1_state 245 = .ok (.aload_n 0, 1) := dk_42 (dk_at dksX1_state_7 17 rfl rfl)
theorem dX1_state_246 : decode cX1_state 246 = .ok (.getfield 39, 3) := dk_180 0 39 (dk_at dksX1_state_7 18 rfl rfl)
theorem dX1_state_249 : decode cX1_state 249 = .ok (.getfield 169, 3) := dk_180 0 169 (dk_at dksX1_state_7 21 rfl rfl)
theorem dX1_state_252 : decode cX1_state 252 = .ok (.ireturn, 1) := dk_172 (dk_at dksX1_state_8 0 rfl rfl)
theorem dX1_state_253 : decode cX1_state 253 = .ok (.iconst (-1), 1) := dk_2 (dk_at dksX1_state_8 1 rfl rfl)
theorem dX1_state_254 : decode cX1_state 254 = .ok (.ireturn, 1) := dk_172 (dk_at dksX1_state_8 2 rfl rfl)
abbrev cX1_program : ByteArray := prog_1_method_18_code
def yX1_program : MethodName := ⟨RX1, "program", "(IIII)Z"⟩
def dkwX1_program_2 : List UInt8 := [4, 172]
abbrev dktX1_program_2 : List UInt8 := dkwX1_program_2 ++ []
def dkwX1_program_1 : List UInt8 := [42, 21, 5, 182, 0, 176, 154, 0, 5, 3, 172, 42, 180, 0, 46, 27, 50, 28, 29, 21, 4, 184, 0, 180]
abbrev dktX1_program_1 : List UInt8 := dkwX1_program_1 ++ dktX1_program_2
def dkwX1_program_0 : List UInt8 := [27, 3, 16, 11, 184, 0, 112, 153, 0, 14, 42, 28, 29, 21, 4, 182, 0, 172, 167, 0, 4, 4, 54, 5]
abbrev dktX1_program_0 : List UInt8 := dkwX1_program_0 ++ dktX1_program_1
theorem dksX1_program_0 : cX1_program.data.toList.drop 0 = dktX1_program_0 := by decide +kernel
theorem dksX1_program_1 : cX1_program.data.toList.drop 24 = dktX1_program_1 := dk_seg dksX1_program_0 24 rfl rfl
theorem dksX1_program_2 : cX1_program.data.toList.drop 48 = dktX1_program_2 := dk_seg dksX1_program_1 24 rfl rfl
theorem dX1_program_0 : decode cX1_program 0 = .ok (.iload_n 1, 1) := dk_27 (dk_at dksX1_program_0 0 rfl rfl)
theorem dX1_program_1 : decode cX1_program 1 = .ok (.iconst 0, 1) := dk_3 (dk_at dksX1_program_0 1 rfl rfl)
theorem dX1_program_2 : decode cX1_program 2 = .ok (.bipush 11, 2) := dk_16 11 (dk_at dksX1_program_0 2 rfl rfl)
theorem dX1_program_4 : decode cX1_program 4 = .ok (.invokestatic 112, 3) := dk_184 0 112 (dk_at dksX1_program_0 4 rfl rfl)
theorem dX1_program_7 : decode cX1_program 7 = .ok (.ifCond .eq 14, 3) := dk_153 0 14 (dk_at dksX1_program_0 7 rfl rfl)
theorem dX1_program_10 : decode cX1_program 10 = .ok (.aload_n 0, 1) := dk_42 (dk_at dksX1_program_0 10 rfl rfl)
theorem dX1_program_11 : decode cX1_program 11 = .ok (.iload_n 2, 1) := dk_28 (dk_at dksX1_program_0 11 rfl rfl)
theorem dX1_program_12 : decode cX1_program 12 = .ok (.iload_n 3, 1) := dk_29 (dk_at dksX1_program_0 12 rfl rfl)
theorem dX1_program_13 : decode cX1_program 13 = .ok (.iload 4, 2) := dk_21 4 (dk_at dksX1_program_0 13 rfl rfl)
theorem dX1_program_15 : decode cX1_program 15 = .ok (.invokevirtual 172, 3) := dk_182 0 172 (dk_at dksX1_program_0 15 rfl rfl)
theorem dX1_program_18 : decode cX1_program 18 = .ok (.goto 4, 3) := dk_167 0 4 (dk_at dksX1_program_0 18 rfl rfl)
theorem dX1_program_21 : decode cX1_program 21 = .ok (.iconst 1, 1) := dk_4 (dk_at dksX1_program_0 21 rfl rfl)
theorem dX1_program_22 : decode cX1_program 22 = .ok (.istore 5, 2) := dk_54 5 (dk_at dksX1_program_0 22 rfl rfl)
theorem dX1_program_24 : decode cX1_program 24 = .ok (.aload_n 0, 1) := dk_42 (dk_at dksX1_program_1 0 rfl rfl)
theorem dX1_program_25 : decode cX1_program 25 = .ok (.iload 5, 2) := dk_21 5 (dk_at dksX1_program_1 1 rfl rfl)
theorem dX1_program_27 : decode cX1_program 27 = .ok (.invokevirtual 176, 3) := dk_182 0 176 (dk_at dksX1_program_1 3 rfl rfl)
theorem dX1_program_30 : decode cX1_program 30 = .ok (.ifCond .ne 5, 3) := dk_154 0 5 (dk_at dksX1_program_1 6 rfl rfl)
theorem dX1_program_33 : decode cX1_program 33 = .ok (.iconst 0, 1) := dk_3 (dk_at dksX1_program_1 9 rfl rfl)
theorem dX1_program_34 : decode cX1_program 34 = .ok (.ireturn, 1) := dk_172 (dk_at dksX1_program_1 10 rfl rfl)
theorem dX1_program_35 : decode cX1_program 35 = .ok (.aload_n 0, 1) := dk_42 (dk_at dksX1_program_1 11 rfl rfl)
theorem dX1_program_36 : decode cX1_program 36 = .ok (.getfield 46, 3) := dk_180 0 46 (dk_at dksX1_program_1 12 rfl rfl)
theorem dX1_program_39 : decode cX1_program 39 = .ok (.iload_n 1, 1) := dk_27 (dk_at dksX1_program_1 15 rfl rfl)
theorem dX1_program_40 : decode cX1_program 40 = .ok (.aaload, 1) := dk_50 (dk_at dksX1_program_1 16 rfl rfl)
theorem dX1_program_41 : decode cX1_program 41 = .ok (.iload_n 2, 1) := dk_28 (dk_at dksX1_program_1 17 rfl rfl)
theorem dX1_program_42 : decode cX1_program 42 = .ok (.iload_n 3, 1) := dk_29 (dk_at dksX1_program_1 18 rfl rfl)
theorem dX1_program_43 : decode cX1_program 43 = .ok (.iload 4, 2) := dk_21 4 (dk_at dksX1_program_1 19 rfl rfl)
theorem dX1_program_45 : decode cX1_program 45 = .ok (.invokestatic 180, 3) := dk_184 0 180 (dk_at dksX1_program_1 21 rfl rfl)
theorem dX1_program_48 : decode cX1_program 48 = .ok (.iconst 1, 1) := dk_4 (dk_at dksX1_program_2 0 rfl rfl)
theorem dX1_program_49 : decode cX1_program 49 = .ok (.ireturn, 1) := dk_172 (dk_at dksX1_program_2 1 rfl rfl)
abbrev cX1_seen : ByteArray := prog_1_method_20_code
def yX1_seen : MethodName := ⟨RX1, "seen", "(IIII)I"⟩
def dkwX1_seen_5 : List UInt8 := [172]
abbrev dktX1_seen_5 : List UInt8 := dkwX1_seen_5 ++ []
def dkwX1_seen_4 : List UInt8 := [180, 0, 63, 42, 180, 0, 146, 21, 4, 79, 42, 89, 180, 0, 146, 4, 96, 181, 0, 146, 42, 180, 0, 146]
abbrev dktX1_seen_4 : List UInt8 := dkwX1_seen_4 ++ dktX1_seen_5
def dkwX1_seen_3 : List UInt8 := [79, 42, 180, 0, 57, 42, 180, 0, 146, 28, 79, 42, 180, 0, 60, 42, 180, 0, 146, 29, 79, 42]
abbrev dktX1_seen_3 : List UInt8 := dkwX1_seen_3 ++ dktX1_seen_4
def dkwX1_seen_2 : List UInt8 := [42, 180, 0, 146, 16, 24, 160, 0, 9, 42, 6, 182, 0, 116, 172, 42, 180, 0, 54, 42, 180, 0, 146, 27]
abbrev dktX1_seen_2 : List UInt8 := dkwX1_seen_2 ++ dktX1_seen_3
def dkwX1_seen_1 : List UInt8 := [184, 0, 112, 153, 0, 15, 21, 4, 3, 17, 3, 231, 184, 0, 112, 154, 0, 9, 42, 5, 182, 0, 116, 172]
abbrev dktX1_seen_1 : List UInt8 := dkwX1_seen_1 ++ dktX1_seen_2
def dkwX1_seen_0 : List UInt8 := [42, 182, 0, 102, 42, 27, 28, 182, 0, 244, 154, 0, 9, 42, 4, 182, 0, 116, 172, 29, 3, 18, 248]
abbrev dktX1_seen_0 : List UInt8 := dkwX1_seen_0 ++ dktX1_seen_1
theorem dksX1_seen_0 : cX1_seen.data.toList.drop 0 = dktX1_seen_0 := by decide +kernel
theorem dksX1_seen_1 : cX1_seen.data.toList.drop 23 = dktX1_seen_1 := dk_seg dksX1_seen_0 23 rfl rfl
theorem dksX1_seen_2 : cX1_seen.data.toList.drop 47 = dktX1_seen_2 := dk_seg dksX1_seen_1 24 rfl rfl
theorem dksX1_seen_3 : cX1_seen.data.toList.drop 71 = dktX1_seen_3 := dk_seg dksX1_seen_2 24 rfl rfl
theorem dksX1_seen_4 : cX1_seen.data.toList.drop 93 = dktX1_seen_4 := dk_seg dksX1_seen_3 22 rfl rfl
theorem dksX1_seen_5 : cX1_seen.data.toList.drop 117 = dktX1_seen_5 := dk_seg dksX1_seen_4 24 rfl rfl
theorem dX1_seen_0 : decode cX1_seen 0 = .ok (.aload_n 0, 1) := dk_42 (dk_at dksX1_seen_0 0 rfl rfl)
theorem dX1_seen_1 : decode cX1_seen 1 = .ok (.invokevirtual 102, 3) := dk_182 0 102 (dk_at dksX1_seen_0 1 rfl rfl)
theorem dX1_seen_4 : decode cX1_seen 4 = .ok (.aload_n 0, 1) := dk_42 (dk_at dksX1_seen_0 4 rfl rfl)
theorem dX1_seen_5 : decode cX1_seen 5 = .ok (.iload_n 1, 1) := dk_27 (dk_at dksX1_seen_0 5 rfl rfl)
theorem dX1_seen_6 : decode cX1_seen 6 = .ok (.iload_n 2, 1) := dk_28 (dk_at dksX1_seen_0 6 rfl rfl)
theorem dX1_seen_7 : decode cX1_seen 7 = .ok (.invokevirtual 244, 3) := dk_182 0 244 (dk_at dksX1_seen_0 7 rfl rfl)
theorem dX1_seen_10 : decode cX1_seen 10 = .ok (.ifCond .ne 9, 3) := dk_154 0 9 (dk_at dksX1_seen_0 10 rfl rfl)
theorem dX1_seen_13 : decode cX1_seen 13 = .ok (.aload_n 0, 1) := dk_42 (dk_at dksX1_seen_0 13 rfl rfl)
theorem dX1_seen_14 : decode cX1_seen 14 = .ok (.iconst 1, 1) := dk_4 (dk_at dksX1_seen_0 14 rfl rfl)
theorem dX1_seen_15 : decode cX1_seen 15 = .ok (.invokevirtual 116, 3) := dk_182 0 116 (dk_at dksX1_seen_0 15 rfl rfl)
theorem dX1_seen_18 : decode cX1_seen 18 = .ok (.ireturn, 1) := dk_172 (dk_at dksX1_seen_0 18 rfl rfl)
theorem dX1_seen_19 : decode cX1_seen 19 = .ok (.iload_n 3, 1) := dk_29 (dk_at dksX1_seen_0 19 rfl rfl)
theorem dX1_seen_20 : decode cX1_seen 20 = .ok (.iconst 0, 1) := dk_3 (dk_at dksX1_seen_0 20 rfl rfl)
theorem dX1_seen_21 : decode cX1_seen 21 = .ok (.ldc 248, 2) := dk_18 248 (dk_at dksX1_seen_0 21 rfl rfl)
theorem dX1_seen_23 : decode cX1_seen 23 = .ok (.invokestatic 112, 3) := dk_184 0 112 (dk_at dksX1_seen_1 0 rfl rfl)
theorem dX1_seen_26 : decode cX1_seen 26 = .ok (.ifCond .eq 15, 3) := dk_153 0 15 (dk_at dksX1_seen_1 3 rfl rfl)
theorem dX1_seen_29 : decode cX1_seen 29 = .ok (.iload 4, 2) := dk_21 4 (dk_at dksX1_seen_1 6 rfl rfl)
theorem dX1_seen_31 : decode cX1_seen 31 = .ok (.iconst 0, 1) := dk_3 (dk_at dksX1_seen_1 8 rfl rfl)
theorem dX1_seen_32 : decode cX1_seen 32 = .ok (.sipush 999, 3) := dk_17 3 231 (dk_at dksX1_seen_1 9 rfl rfl)
theorem dX1_seen_35 : decode cX1_seen 35 = .ok (.invokestatic 112, 3) := dk_184 0 112 (dk_at dksX1_seen_1 12 rfl rfl)
theorem dX1_seen_38 : decode cX1_seen 38 = .ok (.ifCond .ne 9, 3) := dk_154 0 9 (dk_at dksX1_seen_1 15 rfl rfl)
theorem dX1_seen_41 : decode cX1_seen 41 = .ok (.aload_n 0, 1) := dk_42 (dk_at dksX1_seen_1 18 rfl rfl)
theorem dX1_seen_42 : decode cX1_seen 42 = .ok (.iconst 2, 1) := dk_5 (dk_at dksX1_seen_1 19 rfl rfl)
theorem dX1_seen_43 : decode cX1_seen 43 = .ok (.invokevirtual 116, 3) := dk_182 0 116 (dk_at dksX1_seen_1 20 rfl rfl)
theorem dX1_seen_46 : decode cX1_seen 46 = .ok (.ireturn, 1) := dk_172 (dk_at dksX1_seen_1 23 rfl rfl)
theorem dX1_seen_47 : decode cX1_seen 47 = .ok (.aload_n 0, 1) := dk_42 (dk_at dksX1_seen_2 0 rfl rfl)
theorem dX1_seen_48 : decode cX1_seen 48 = .ok (.getfield 146, 3) := dk_180 0 146 (dk_at dksX1_seen_2 1 rfl rfl)
theorem dX1_seen_51 : decode cX1_seen 51 = .ok (.bipush 24, 2) := dk_16 24 (dk_at dksX1_seen_2 4 rfl rfl)
theorem dX1_seen_53 : decode cX1_seen 53 = .ok (.if_icmp .ne 9, 3) := dk_160 0 9 (dk_at dksX1_seen_2 6 rfl rfl)
theorem dX1_seen_56 : decode cX1_seen 56 = .ok (.aload_n 0, 1) := dk_42 (dk_at dksX1_seen_2 9 rfl rfl)
theorem dX1_seen_57 : decode cX1_seen 57 = .ok (.iconst 3, 1) := dk_6 (dk_at dksX1_seen_2 10 rfl rfl)
theorem dX1_seen_58 : decode cX1_seen 58 = .ok (.invokevirtual 116, 3) := dk_182 0 116 (dk_at dksX1_seen_2 11 rfl rfl)
theorem dX1_seen_61 : decode cX1_seen 61 = .ok (.ireturn, 1) := dk_172 (dk_at dksX1_seen_2 14 rfl rfl)
theorem dX1_seen_62 : decode cX1_seen 62 = .ok (.aload_n 0, 1) := dk_42 (dk_at dksX1_seen_2 15 rfl rfl)
theorem dX1_seen_63 : decode cX1_seen 63 = .ok (.getfield 54, 3) := dk_180 0 54 (dk_at dksX1_seen_2 16 rfl rfl)
theorem dX1_seen_66 : decode cX1_seen 66 = .ok (.aload_n 0, 1) := dk_42 (dk_at dksX1_seen_2 19 rfl rfl)
theorem dX1_seen_67 : decode cX1_seen 67 = .ok (.getfield 146, 3) := dk_180 0 146 (dk_at dksX1_seen_2 20 rfl rfl)
theorem dX1_seen_70 : decode cX1_seen 70 = .ok (.iload_n 1, 1) := dk_27 (dk_at dksX1_seen_2 23 rfl rfl)
theorem dX1_seen_71 : decode cX1_seen 71 = .ok (.iastore, 1) := dk_79 (dk_at dksX1_seen_3 0 rfl rfl)
theorem dX1_seen_72 : decode cX1_seen 72 = .ok (.aload_n 0, 1) := dk_42 (dk_at dksX1_seen_3 1 rfl rfl)
theorem dX1_seen_73 : decode cX1_seen 73 = .ok (.getfield 57, 3) := dk_180 0 57 (dk_at dksX1_seen_3 2 rfl rfl)
theorem dX1_seen_76 : decode cX1_seen 76 = .ok (.aload_n 0, 1) := dk_42 (dk_at dksX1_seen_3 5 rfl rfl)
theorem dX1_seen_77 : decode cX1_seen 77 = .ok (.getfield 146, 3) := dk_180 0 146 (dk_at dksX1_seen_3 6 rfl rfl)
theorem dX1_seen_80 : decode cX1_seen 80 = .ok (.iload_n 2, 1) := dk_28 (dk_at dksX1_seen_3 9 rfl rfl)
theorem dX1_seen_81 : decode cX1_seen 81 = .ok (.iastore, 1) := dk_79 (dk_at dksX1_seen_3 10 rfl rfl)
theorem dX1_seen_82 : decode cX1_seen 82 = .ok (.aload_n 0, 1) := dk_42 (dk_at dksX1_seen_3 11 rfl rfl)
theorem dX1_seen_83 : decode cX1_seen 83 = .ok (.getfield 60, 3) := dk_180 0 60 (dk_at dksX1_seen_3 12 rfl rfl)
theorem dX1_seen_86 : decode cX1_seen 86 = .ok (.aload_n 0, 1) := dk_42 (dk_at dksX1_seen_3 15 rfl rfl)
theorem dX1_seen_87 : decode cX1_seen 87 = .ok (.getfield 146, 3) := dk_180 0 146 (dk_at dksX1_seen_3 16 rfl rfl)
theorem dX1_seen_90 : decode cX1_seen 90 = .ok (.iload_n 3, 1) := dk_29 (dk_at dksX1_seen_3 19 rfl rfl)
theorem dX1_seen_91 : decode cX1_seen 91 = .ok (.iastore, 1) := dk_79 (dk_at dksX1_seen_3 20 rfl rfl)
theorem dX1_seen_92 : decode cX1_seen 92 = .ok (.aload_n 0, 1) := dk_42 (dk_at dksX1_seen_3 21 rfl rfl)
theorem dX1_seen_93 : decode cX1_seen 93 = .ok (.getfield 63, 3) := dk_180 0 63 (dk_at dksX1_seen_4 0 rfl rfl)
theorem dX1_seen_96 : decode cX1_seen 96 = .ok (.aload_n 0, 1) := dk_42 (dk_at dksX1_seen_4 3 rfl rfl)
theorem dX1_seen_97 : decode cX1_seen 97 = .ok (.getfield 146, 3) := dk_180 0 146 (dk_at dksX1_seen_4 4 rfl rfl)
theorem dX1_seen_100 : decode cX1_seen 100 = .ok (.iload 4, 2) := dk_21 4 (dk_at dksX1_seen_4 7 rfl rfl)
theorem dX1_seen_102 : decode cX1_seen 102 = .ok (.iastore, 1) := dk_79 (dk_at dksX1_seen_4 9 rfl rfl)
theorem dX1_seen_103 : decode cX1_seen 103 = .ok (.aload_n 0, 1) := dk_42 (dk_at dksX1_seen_4 10 rfl rfl)
theorem dX1_seen_104 : decode cX1_seen 104 = .ok (.dup, 1) := dk_89 (dk_at dksX1_seen_4 11 rfl rfl)
theorem dX1_seen_105 : decode cX1_seen 105 = .ok (.getfield 146, 3) := dk_180 0 146 (dk_at dksX1_seen_4 12 rfl rfl)
theorem dX1_seen_108 : decode cX1_seen 108 = .ok (.iconst 1, 1) := dk_4 (dk_at dksX1_seen_4 15 rfl rfl)
theorem dX1_seen_109 : decode cX1_seen 109 = .ok (.iadd, 1) := dk_96 (dk_at dksX1_seen_4 16 rfl rfl)
theorem dX1_seen_110 : decode cX1_seen 110 = .ok (.putfield 146, 3) := dk_181 0 146 (dk_at dksX1_seen_4 17 rfl rfl)
theorem dX1_seen_113 : decode cX1_seen 113 = .ok (.aload_n 0, 1) := dk_42 (dk_at dksX1_seen_4 20 rfl rfl)
theorem dX1_seen_114 : decode cX1_seen 114 = .ok (.getfield 146, 3) := dk_180 0 146 (dk_at dksX1_seen_4 21 rfl rfl)
theorem dX1_seen_117 : decode cX1_seen 117 = .ok (.ireturn, 1) := dk_172 (dk_at dksX1_seen_5 0 rfl rfl)
abbrev cX1_isLook : ByteArray := prog_1_method_19_code
def yX1_isLook : MethodName := ⟨RX1, "isLook", "(II)Z"⟩
def dkwX1_isLook_1 : List UInt8 := [180, 0, 155, 4, 96, 184, 0, 112, 153, 0, 7, 4, 167, 0, 4, 3, 172]
abbrev dktX1_isLook_1 : List UInt8 := dkwX1_isLook_1 ++ []
def dkwX1_isLook_0 : List UInt8 := [42, 180, 0, 127, 198, 0, 34, 27, 3, 16, 11, 184, 0, 112, 153, 0, 24, 28, 3, 42, 180, 0, 127]
abbrev dktX1_isLook_0 : List UInt8 := dkwX1_isLook_0 ++ dktX1_isLook_1
theorem dksX1_isLook_0 : cX1_isLook.data.toList.drop 0 = dktX1_isLook_0 := by decide +kernel
theorem dksX1_isLook_1 : cX1_isLook.data.toList.drop 23 = dktX1_isLook_1 := dk_seg dksX1_isLook_0 23 rfl rfl
theorem dX1_isLook_0 : decode cX1_isLook 0 = .ok (.aload_n 0, 1) := dk_42 (dk_at dksX1_isLook_0 0 rfl rfl)
theorem dX1_isLook_1 : decode cX1_isLook 1 = .ok (.getfield 127, 3) := dk_180 0 127 (dk_at dksX1_isLook_0 1 rfl rfl)
theorem dX1_isLook_4 : decode cX1_isLook 4 = .ok (.ifnull 34, 3) := dk_198 0 34 (dk_at dksX1_isLook_0 4 rfl rfl)
theorem dX1_isLook_7 : decode cX1_isLook 7 = .ok (.iload_n 1, 1) := dk_27 (dk_at dksX1_isLook_0 7 rfl rfl)
theorem dX1_isLook_8 : decode cX1_isLook 8 = .ok (.iconst 0, 1) := dk_3 (dk_at dksX1_isLook_0 8 rfl rfl)
theorem dX1_isLook_9 : decode cX1_isLook 9 = .ok (.bipush 11, 2) := dk_16 11 (dk_at dksX1_isLook_0 9 rfl rfl)
theorem dX1_isLook_11 : decode cX1_isLook 11 = .ok (.invokestatic 112, 3) := dk_184 0 112 (dk_at dksX1_isLook_0 11 rfl rfl)
theorem dX1_isLook_14 : decode cX1_isLook 14 = .ok (.ifCond .eq 24, 3) := dk_153 0 24 (dk_at dksX1_isLook_0 14 rfl rfl)
theorem dX1_isLook_17 : decode cX1_isLook 17 = .ok (.iload_n 2, 1) := dk_28 (dk_at dksX1_isLook_0 17 rfl rfl)
theorem dX1_isLook_18 : decode cX1_isLook 18 = .ok (.iconst 0, 1) := dk_3 (dk_at dksX1_isLook_0 18 rfl rfl)
theorem dX1_isLook_19 : decode cX1_isLook 19 = .ok (.aload_n 0, 1) := dk_42 (dk_at dksX1_isLook_0 19 rfl rfl)
theorem dX1_isLook_20 : decode cX1_isLook 20 = .ok (.getfield 127, 3) := dk_180 0 127 (dk_at dksX1_isLook_0 20 rfl rfl)
theorem dX1_isLook_23 : decode cX1_isLook 23 = .ok (.getfield 155, 3) := dk_180 0 155 (dk_at dksX1_isLook_1 0 rfl rfl)
theorem dX1_isLook_26 : decode cX1_isLook 26 = .ok (.iconst 1, 1) := dk_4 (dk_at dksX1_isLook_1 3 rfl rfl)
theorem dX1_isLook_27 : decode cX1_isLook 27 = .ok (.iadd, 1) := dk_96 (dk_at dksX1_isLook_1 4 rfl rfl)
theorem dX1_isLook_28 : decode cX1_isLook 28 = .ok (.invokestatic 112, 3) := dk_184 0 112 (dk_at dksX1_isLook_1 5 rfl rfl)
theorem dX1_isLook_31 : decode cX1_isLook 31 = .ok (.ifCond .eq 7, 3) := dk_153 0 7 (dk_at dksX1_isLook_1 8 rfl rfl)
theorem dX1_isLook_34 : decode cX1_isLook 34 = .ok (.iconst 1, 1) := dk_4 (dk_at dksX1_isLook_1 11 rfl rfl)
theorem dX1_isLook_35 : decode cX1_isLook 35 = .ok (.goto 4, 3) := dk_167 0 4 (dk_at dksX1_isLook_1 12 rfl rfl)
theorem dX1_isLook_38 : decode cX1_isLook 38 = .ok (.iconst 0, 1) := dk_3 (dk_at dksX1_isLook_1 15 rfl rfl)
theorem dX1_isLook_39 : decode cX1_isLook 39 = .ok (.ireturn, 1) := dk_172 (dk_at dksX1_isLook_1 16 rfl rfl)
abbrev cX1_forget : ByteArray := prog_1_method_21_code
def yX1_forget : MethodName := ⟨RX1, "forget", "()I"⟩
def dkwX1_forget_0 : List UInt8 := [42, 180, 0, 146, 60, 42, 3, 181, 0, 146, 27, 172]
abbrev dktX1_forget_0 : List UInt8 := dkwX1_forget_0 ++ []
theorem dksX1_forget_0 : cX1_forget.data.toList.drop 0 = dktX1_forget_0 := by decide +kernel
theorem dX1_forget_0 : decode cX1_forget 0 = .ok (.aload_n 0, 1) := dk_42 (dk_at dksX1_forget_0 0 rfl rfl)
theorem dX1_forget_1 : decode cX1_forget 1 = .ok (.getfield 146, 3) := dk_180 0 146 (dk_at dksX1_forget_0 1 rfl rfl)
theorem dX1_forget_4 : decode cX1_forget 4 = .ok (.istore_n 1, 1) := dk_60 (dk_at dksX1_forget_0 4 rfl rfl)
theorem dX1_forget_5 : decode cX1_forget 5 = .ok (.aload_n 0, 1) := dk_42 (dk_at dksX1_forget_0 5 rfl rfl)
theorem dX1_forget_6 : decode cX1_forget 6 = .ok (.iconst 0, 1) := dk_3 (dk_at dksX1_forget_0 6 rfl rfl)
theorem dX1_forget_7 : decode cX1_forget 7 = .ok (.putfield 146, 3) := dk_181 0 146 (dk_at dksX1_forget_0 7 rfl rfl)
theorem dX1_forget_10 : decode cX1_forget 10 = .ok (.iload_n 1, 1) := dk_27 (dk_at dksX1_forget_0 10 rfl rfl)
theorem dX1_forget_11 : decode cX1_forget 11 = .ok (.ireturn, 1) := dk_172 (dk_at dksX1_forget_0 11 rfl rfl)
abbrev cX1_fits : ByteArray := prog_1_method_26_code
def yX1_fits : MethodName := ⟨RX1, "fits", "()I"⟩
def dkwX1_fits_1 : List UInt8 := [182, 1, 7, 172]
abbrev dktX1_fits_1 : List UInt8 := dkwX1_fits_1 ++ []
def dkwX1_fits_0 : List UInt8 := [42, 182, 0, 102, 42, 180, 0, 127, 199, 0, 9, 42, 4, 182, 0, 116, 172, 42, 182, 1, 4, 42, 2, 2]
abbrev dktX1_fits_0 : List UInt8 := dkwX1_fits_0 ++ dktX1_fits_1
theorem dksX1_fits_0 : cX1_fits.data.toList.drop 0 = dktX1_fits_0 := by decide +kernel
theorem dksX1_fits_1 : cX1_fits.data.toList.drop 24 = dktX1_fits_1 := dk_seg dksX1_fits_0 24 rfl rfl
theorem dX1_fits_0 : decode cX1_fits 0 = .ok (.aload_n 0, 1) := dk_42 (dk_at dksX1_fits_0 0 rfl rfl)
theorem dX1_fits_1 : decode cX1_fits 1 = .ok (.invokevirtual 102, 3) := dk_182 0 102 (dk_at dksX1_fits_0 1 rfl rfl)
theorem dX1_fits_4 : decode cX1_fits 4 = .ok (.aload_n 0, 1) := dk_42 (dk_at dksX1_fits_0 4 rfl rfl)
theorem dX1_fits_5 : decode cX1_fits 5 = .ok (.getfield 127, 3) := dk_180 0 127 (dk_at dksX1_fits_0 5 rfl rfl)
theorem dX1_fits_8 : decode cX1_fits 8 = .ok (.ifnonnull 9, 3) := dk_199 0 9 (dk_at dksX1_fits_0 8 rfl rfl)
theorem dX1_fits_11 : decode cX1_fits 11 = .ok (.aload_n 0, 1) := dk_42 (dk_at dksX1_fits_0 11 rfl rfl)
theorem dX1_fits_12 : decode cX1_fits 12 = .ok (.iconst 1, 1) := dk_4 (dk_at dksX1_fits_0 12 rfl rfl)
theorem dX1_fits_13 : decode cX1_fits 13 = .ok (.invokevirtual 116, 3) := dk_182 0 116 (dk_at dksX1_fits_0 13 rfl rfl)
theorem dX1_fits_16 : decode cX1_fits 16 = .ok (.ireturn, 1) := dk_172 (dk_at dksX1_fits_0 16 rfl rfl)
theorem dX1_fits_17 : decode cX1_fits 17 = .ok (.aload_n 0, 1) := dk_42 (dk_at dksX1_fits_0 17 rfl rfl)
theorem dX1_fits_18 : decode cX1_fits 18 = .ok (.invokevirtual 260, 3) := dk_182 1 4 (dk_at dksX1_fits_0 18 rfl rfl)
theorem dX1_fits_21 : decode cX1_fits 21 = .ok (.aload_n 0, 1) := dk_42 (dk_at dksX1_fits_0 21 rfl rfl)
theorem dX1_fits_22 : decode cX1_fits 22 = .ok (.iconst (-1), 1) := dk_2 (dk_at dksX1_fits_0 22 rfl rfl)
theorem dX1_fits_23 : decode cX1_fits 23 = .ok (.iconst (-1), 1) := dk_2 (dk_at dksX1_fits_0 23 rfl rfl)
theorem dX1_fits_24 : decode cX1_fits 24 = .ok (.invokevirtual 263, 3) := dk_182 1 7 (dk_at dksX1_fits_1 0 rfl rfl)
theorem dX1_fits_27 : decode cX1_fits 27 = .ok (.ireturn, 1) := dk_172 (dk_at dksX1_fits_1 3 rfl rfl)
abbrev cX1_lays : ByteArray := prog_1_method_23_code
def yX1_lays : MethodName := ⟨RX1, "lays", "()V"⟩
def dkwX1_lays_4 : List UInt8 := [132, 3, 1, 167, 255, 216, 132, 2, 1, 167, 255, 184, 132, 1, 1, 167, 255, 147, 177]
abbrev dktX1_lays_4 : List UInt8 := dkwX1_lays_4 ++ []
def dkwX1_lays_3 : List UInt8 := [42, 180, 0, 66, 27, 16, 12, 104, 28, 96, 16, 7, 104, 29, 96, 42, 180, 0, 33, 29, 184, 0, 253, 79]
abbrev dktX1_lays_3 : List UInt8 := dkwX1_lays_3 ++ dktX1_lays_4
def dkwX1_lays_2 : List UInt8 := [180, 0, 46, 28, 50, 1, 182, 0, 193, 3, 62, 29, 42, 180, 0, 127, 180, 0, 155, 5, 96, 162, 0, 33]
abbrev dktX1_lays_2 : List UInt8 := dkwX1_lays_2 ++ dktX1_lays_3
def dkwX1_lays_1 : List UInt8 := [112, 27, 8, 112, 182, 0, 249, 3, 61, 28, 16, 12, 162, 0, 72, 42, 180, 0, 33, 42, 180, 0, 127, 42]
abbrev dktX1_lays_1 : List UInt8 := dkwX1_lays_1 ++ dktX1_lays_2
def dkwX1_lays_0 : List UInt8 := [3, 60, 27, 16, 100, 162, 0, 109, 42, 180, 0, 33, 42, 180, 0, 127, 27, 16, 25, 108, 27, 8, 108, 8]
abbrev dktX1_lays_0 : List UInt8 := dkwX1_lays_0 ++ dktX1_lays_1
theorem dksX1_lays_0 : cX1_lays.data.toList.drop 0 = dktX1_lays_0 := by decide +kernel
theorem dksX1_lays_1 : cX1_lays.data.toList.drop 24 = dktX1_lays_1 := dk_seg dksX1_lays_0 24 rfl rfl
theorem dksX1_lays_2 : cX1_lays.data.toList.drop 48 = dktX1_lays_2 := dk_seg dksX1_lays_1 24 rfl rfl
theorem dksX1_lays_3 : cX1_lays.data.toList.drop 72 = dktX1_lays_3 := dk_seg dksX1_lays_2 24 rfl rfl
theorem dksX1_lays_4 : cX1_lays.data.toList.drop 96 = dktX1_lays_4 := dk_seg dksX1_lays_3 24 rfl rfl
theorem dX1_lays_0 : decode cX1_lays 0 = .ok (.iconst 0, 1) := dk_3 (dk_at dksX1_lays_0 0 rfl rfl)
theorem dX1_lays_1 : decode cX1_lays 1 = .ok (.istore_n 1, 1) := dk_60 (dk_at dksX1_lays_0 1 rfl rfl)
theorem dX1_lays_2 : decode cX1_lays 2 = .ok (.iload_n 1, 1) := dk_27 (dk_at dksX1_lays_0 2 rfl rfl)
theorem dX1_lays_3 : decode cX1_lays 3 = .ok (.bipush 100, 2) := dk_16 100 (dk_at dksX1_lays_0 3 rfl rfl)
theorem dX1_lays_5 : decode cX1_lays 5 = .ok (.if_icmp .ge 109, 3) := dk_162 0 109 (dk_at dksX1_lays_0 5 rfl rfl)
theorem dX1_lays_8 : decode cX1_lays 8 = .ok (.aload_n 0, 1) := dk_42 (dk_at dksX1_lays_0 8 rfl rfl)
theorem dX1_lays_9 : decode cX1_lays 9 = .ok (.getfield 33, 3) := dk_180 0 33 (dk_at dksX1_lays_0 9 rfl rfl)
theorem dX1_lays_12 : decode cX1_lays 12 = .ok (.aload_n 0, 1) := dk_42 (dk_at dksX1_lays_0 12 rfl rfl)
theorem dX1_lays_13 : decode cX1_lays 13 = .ok (.getfield 127, 3) := dk_180 0 127 (dk_at dksX1_lays_0 13 rfl rfl)
theorem dX1_lays_16 : decode cX1_lays 16 = .ok (.iload_n 1, 1) := dk_27 (dk_at dksX1_lays_0 16 rfl rfl)
theorem dX1_lays_17 : decode cX1_lays 17 = .ok (.bipush 25, 2) := dk_16 25 (dk_at dksX1_lays_0 17 rfl rfl)
theorem dX1_lays_19 : decode cX1_lays 19 = .ok (.idiv, 1) := dk_108 (dk_at dksX1_lays_0 19 rfl rfl)
theorem dX1_lays_20 : decode cX1_lays 20 = .ok (.iload_n 1, 1) := dk_27 (dk_at dksX1_lays_0 20 rfl rfl)
theorem dX1_lays_21 : decode cX1_lays 21 = .ok (.iconst 5, 1) := dk_8 (dk_at dksX1_lays_0 21 rfl rfl)
theorem dX1_lays_22 : decode cX1_lays 22 = .ok (.idiv, 1) := dk_108 (dk_at dksX1_lays_0 22 rfl rfl)
theorem dX1_lays_23 : decode cX1_lays 23 = .ok (.iconst 5, 1) := dk_8 (dk_at dksX1_lays_0 23 rfl rfl)
theorem dX1_lays_24 : decode cX1_lays 24 = .ok (.irem, 1) := dk_112 (dk_at dksX1_lays_1 0 rfl rfl)
theorem dX1_lays_25 : decode cX1_lays 25 = .ok (.iload_n 1, 1) := dk_27 (dk_at dksX1_lays_1 1 rfl rfl)
theorem dX1_lays_26 : decode cX1_lays 26 = .ok (.iconst 5, 1) := dk_8 (dk_at dksX1_lays_1 2 rfl rfl)
theorem dX1_lays_27 : decode cX1_lays 27 = .ok (.irem, 1) := dk_112 (dk_at dksX1_lays_1 3 rfl rfl)
theorem dX1_lays_28 : decode cX1_lays 28 = .ok (.invokevirtual 249, 3) := dk_182 0 249 (dk_at dksX1_lays_1 4 rfl rfl)
theorem dX1_lays_31 : decode cX1_lays 31 = .ok (.iconst 0, 1) := dk_3 (dk_at dksX1_lays_1 7 rfl rfl)
theorem dX1_lays_32 : decode cX1_lays 32 = .ok (.istore_n 2, 1) := dk_61 (dk_at dksX1_lays_1 8 rfl rfl)
theorem dX1_lays_33 : decode cX1_lays 33 = .ok (.iload_n 2, 1) := dk_28 (dk_at dksX1_lays_1 9 rfl rfl)
theorem dX1_lays_34 : decode cX1_lays 34 = .ok (.bipush 12, 2) := dk_16 12 (dk_at dksX1_lays_1 10 rfl rfl)
theorem dX1_lays_36 : decode cX1_lays 36 = .ok (.if_icmp .ge 72, 3) := dk_162 0 72 (dk_at dksX1_lays_1 12 rfl rfl)
theorem dX1_lays_39 : decode cX1_lays 39 = .ok (.aload_n 0, 1) := dk_42 (dk_at dksX1_lays_1 15 rfl rfl)
theorem dX1_lays_40 : decode cX1_lays 40 = .ok (.getfield 33, 3) := dk_180 0 33 (dk_at dksX1_lays_1 16 rfl rfl)
theorem dX1_lays_43 : decode cX1_lays 43 = .ok (.aload_n 0, 1) := dk_42 (dk_at dksX1_lays_1 19 rfl rfl)
theorem dX1_lays_44 : decode cX1_lays 44 = .ok (.getfield 127, 3) := dk_180 0 127 (dk_at dksX1_lays_1 20 rfl rfl)
theorem dX1_lays_47 : decode cX1_lays 47 = .ok (.aload_n 0, 1) := dk_42 (dk_at dksX1_lays_1 23 rfl rfl)
theorem dX1_lays_48 : decode cX1_lays 48 = .ok (.getfield 46, 3) := dk_180 0 46 (dk_at dksX1_lays_2 0 rfl rfl)
theorem dX1_lays_51 : decode cX1_lays 51 = .ok (.iload_n 2, 1) := dk_28 (dk_at dksX1_lays_2 3 rfl rfl)
theorem dX1_lays_52 : decode cX1_lays 52 = .ok (.aaload, 1) := dk_50 (dk_at dksX1_lays_2 4 rfl rfl)
theorem dX1_lays_53 : decode cX1_lays 53 = .ok (.aconst_null, 1) := dk_1 (dk_at dksX1_lays_2 5 rfl rfl)
theorem dX1_lays_54 : decode cX1_lays 54 = .ok (.invokevirtual 193, 3) := dk_182 0 193 (dk_at dksX1_lays_2 6 rfl rfl)
theorem dX1_lays_57 : decode cX1_lays 57 = .ok (.iconst 0, 1) := dk_3 (dk_at dksX1_lays_2 9 rfl rfl)
theorem dX1_lays_58 : decode cX1_lays 58 = .ok (.istore_n 3, 1) := dk_62 (dk_at dksX1_lays_2 10 rfl rfl)
theorem dX1_lays_59 : decode cX1_lays 59 = .ok (.iload_n 3, 1) := dk_29 (dk_at dksX1_lays_2 11 rfl rfl)
theorem dX1_lays_60 : decode cX1_lays 60 = .ok (.aload_n 0, 1) := dk_42 (dk_at dksX1_lays_2 12 rfl rfl)
theorem dX1_lays_61 : decode cX1_lays 61 = .ok (.getfield 127, 3) := dk_180 0 127 (dk_at dksX1_lays_2 13 rfl rfl)
theorem dX1_lays_64 : decode cX1_lays 64 = .ok (.getfield 155, 3) := dk_180 0 155 (dk_at dksX1_lays_2 16 rfl rfl)
theorem dX1_lays_67 : decode cX1_lays 67 = .ok (.iconst 2, 1) := dk_5 (dk_at dksX1_lays_2 19 rfl rfl)
theorem dX1_lays_68 : decode cX1_lays 68 = .ok (.iadd, 1) := dk_96 (dk_at dksX1_lays_2 20 rfl rfl)
theorem dX1_lays_69 : decode cX1_lays 69 = .ok (.if_icmp .ge 33, 3) := dk_162 0 33 (dk_at dksX1_lays_2 21 rfl rfl)
theorem dX1_lays_72 : decode cX1_lays 72 = .ok (.aload_n 0, 1) := dk_42 (dk_at dksX1_lays_3 0 rfl rfl)
theorem dX1_lays_73 : decode cX1_lays 73 = .ok (.getfield 66, 3) := dk_180 0 66 (dk_at dksX1_lays_3 1 rfl rfl)
theorem dX1_lays_76 : decode cX1_lays 76 = .ok (.iload_n 1, 1) := dk_27 (dk_at dksX1_lays_3 4 rfl rfl)
theorem dX1_lays_77 : decode cX1_lays 77 = .ok (.bipush 12, 2) := dk_16 12 (dk_at dksX1_lays_3 5 rfl rfl)
theorem dX1_lays_79 : decode cX1_lays 79 = .ok (.imul, 1) := dk_104 (dk_at dksX1_lays_3 7 rfl rfl)
theorem dX1_lays_80 : decode cX1_lays 80 = .ok (.iload_n 2, 1) := dk_28 (dk_at dksX1_lays_3 8 rfl rfl)
theorem dX1_lays_81 : decode cX1_lays 81 = .ok (.iadd, 1) := dk_96 (dk_at dksX1_lays_3 9 rfl rfl)
theorem dX1_lays_82 : decode cX1_lays 82 = .ok (.bipush 7, 2) := dk_16 7 (dk_at dksX1_lays_3 10 rfl rfl)
theorem dX1_lays_84 : decode cX1_lays 84 = .ok (.imul, 1) := dk_104 (dk_at dksX1_lays_3 12 rfl rfl)
theorem dX1_lays_85 : decode cX1_lays 85 = .ok (.iload_n 3, 1) := dk_29 (dk_at dksX1_lays_3 13 rfl rfl)
theorem dX1_lays_86 : decode cX1_lays 86 = .ok (.iadd, 1) := dk_96 (dk_at dksX1_lays_3 14 rfl rfl)
theorem dX1_lays_87 : decode cX1_lays 87 = .ok (.aload_n 0, 1) := dk_42 (dk_at dksX1_lays_3 15 rfl rfl)
theorem dX1_lays_88 : decode cX1_lays 88 = .ok (.getfield 33, 3) := dk_180 0 33 (dk_at dksX1_lays_3 16 rfl rfl)
theorem dX1_lays_91 : decode cX1_lays 91 = .ok (.iload_n 3, 1) := dk_29 (dk_at dksX1_lays_3 19 rfl rfl)
theorem dX1_lays_92 : decode cX1_lays 92 = .ok (.invokestatic 253, 3) := dk_184 0 253 (dk_at dksX1_lays_3 20 rfl rfl)
theorem dX1_lays_95 : decode cX1_lays 95 = .ok (.iastore, 1) := dk_79 (dk_at dksX1_lays_3 23 rfl rfl)
theorem dX1_lays_96 : decode cX1_lays 96 = .ok (.iinc 3 1, 3) := dk_132 3 1 (dk_at dksX1_lays_4 0 rfl rfl)
theorem dX1_lays_99 : decode cX1_lays 99 = .ok (.goto (-40), 3) := dk_167 255 216 (dk_at dksX1_lays_4 3 rfl rfl)
theorem dX1_lays_102 : decode cX1_lays 102 = .ok (.iinc 2 1, 3) := dk_132 2 1 (dk_at dksX1_lays_4 6 rfl rfl)
theorem dX1_lays_105 : decode cX1_lays 105 = .ok (.goto (-72), 3) := dk_167 255 184 (dk_at dksX1_lays_4 9 rfl rfl)
theorem dX1_lays_108 : decode cX1_lays 108 = .ok (.iinc 1 1, 3) := dk_132 1 1 (dk_at dksX1_lays_4 12 rfl rfl)
theorem dX1_lays_111 : decode cX1_lays 111 = .ok (.goto (-109), 3) := dk_167 255 147 (dk_at dksX1_lays_4 15 rfl rfl)
theorem dX1_lays_114 : decode cX1_lays 114 = .ok (.return_, 1) := dk_177 (dk_at dksX1_lays_4 18 rfl rfl)
abbrev cX1_look : ByteArray := prog_1_method_22_code
def yX1_look : MethodName := ⟨RX1, "look", "(LRoarMill$State;I)I"⟩
def dkwX1_look_1 : List UInt8 := [180, 0, 207, 27, 5, 100, 46, 172]
abbrev dktX1_look_1 : List UInt8 := dkwX1_look_1 ++ []
def dkwX1_look_0 : List UInt8 := [27, 154, 0, 10, 42, 180, 0, 234, 167, 0, 23, 27, 4, 160, 0, 10, 42, 180, 0, 231, 167, 0, 11, 42]
abbrev dktX1_look_0 : List UInt8 := dkwX1_look_0 ++ dktX1_look_1
theorem dksX1_look_0 : cX1_look.data.toList.drop 0 = dktX1_look_0 := by decide +kernel
theorem dksX1_look_1 : cX1_look.data.toList.drop 24 = dktX1_look_1 := dk_seg dksX1_look_0 24 rfl rfl
theorem dX1_look_0 : decode cX1_look 0 = .ok (.iload_n 1, 1) := dk_27 (dk_at dksX1_look_0 0 rfl rfl)
theorem dX1_look_1 : decode cX1_look 1 = .ok (.ifCond .ne 10, 3) := dk_154 0 10 (dk_at dksX1_look_0 1 rfl rfl)
theorem dX1_look_4 : decode cX1_look 4 = .ok (.aload_n 0, 1) := dk_42 (dk_at dksX1_look_0 4 rfl rfl)
theorem dX1_look_5 : decode cX1_look 5 = .ok (.getfield 234, 3) := dk_180 0 234 (dk_at dksX1_look_0 5 rfl rfl)
theorem dX1_look_8 : decode cX1_look 8 = .ok (.goto 23, 3) := dk_167 0 23 (dk_at dksX1_look_0 8 rfl rfl)
theorem dX1_look_11 : decode cX1_look 11 = .ok (.iload_n 1, 1) := dk_27 (dk_at dksX1_look_0 11 rfl rfl)
theorem dX1_look_12 : decode cX1_look 12 = .ok (.iconst 1, 1) := dk_4 (dk_at dksX1_look_0 12 rfl rfl)
theorem dX1_look_13 : decode cX1_look 13 = .ok (.if_icmp .ne 10, 3) := dk_160 0 10 (dk_at dksX1_look_0 13 rfl rfl)
theorem dX1_look_16 : decode cX1_look 16 = .ok (.aload_n 0, 1) := dk_42 (dk_at dksX1_look_0 16 rfl rfl)
theorem dX1_look_17 : decode cX1_look 17 = .ok (.getfield 231, 3) := dk_180 0 231 (dk_at dksX1_look_0 17 rfl rfl)
theorem dX1_look_20 : decode cX1_look 20 = .ok (.goto 11, 3) := dk_167 0 11 (dk_at dksX1_look_0 20 rfl rfl)
theorem dX1_look_23 : decode cX1_look 23 = .ok (.aload_n 0, 1) := dk_42 (dk_at dksX1_look_0 23 rfl rfl)
theorem dX1_look_24 : decode cX1_look 24 = .ok (.getfield 207, 3) := dk_180 0 207 (dk_at dksX1_look_1 0 rfl rfl)
theorem dX1_look_27 : decode cX1_look 27 = .ok (.iload_n 1, 1) := dk_27 (dk_at dksX1_look_1 3 rfl rfl)
theorem dX1_look_28 : decode cX1_look 28 = .ok (.iconst 2, 1) := dk_5 (dk_at dksX1_look_1 4 rfl rfl)
theorem dX1_look_29 : decode cX1_look 29 = .ok (.isub, 1) := dk_100 (dk_at dksX1_look_1 5 rfl rfl)
theorem dX1_look_30 : decode cX1_look 30 = .ok (.iaload, 1) := dk_46 (dk_at dksX1_look_1 6 rfl rfl)
theorem dX1_look_31 : decode cX1_look 31 = .ok (.ireturn, 1) := dk_172 (dk_at dksX1_look_1 7 rfl rfl)
abbrev cX1_fitMany : ByteArray := prog_1_method_25_code
def yX1_fitMany : MethodName := ⟨RX1, "fitMany", "(II)I"⟩
def dkwX1_fitMany_1 : List UInt8 := [4, 167, 0, 4, 3, 96, 62, 132, 4, 1, 167, 255, 227, 29, 172]
abbrev dktX1_fitMany_1 : List UInt8 := dkwX1_fitMany_1 ++ []
def dkwX1_fitMany_0 : List UInt8 := [3, 62, 3, 54, 4, 21, 4, 16, 100, 162, 0, 28, 29, 42, 21, 4, 27, 28, 182, 1, 1, 153, 0, 7]
abbrev dktX1_fitMany_0 : List UInt8 := dkwX1_fitMany_0 ++ dktX1_fitMany_1
theorem dksX1_fitMany_0 : cX1_fitMany.data.toList.drop 0 = dktX1_fitMany_0 := by decide +kernel
theorem dksX1_fitMany_1 : cX1_fitMany.data.toList.drop 24 = dktX1_fitMany_1 := dk_seg dksX1_fitMany_0 24 rfl rfl
theorem dX1_fitMany_0 : decode cX1_fitMany 0 = .ok (.iconst 0, 1) := dk_3 (dk_at dksX1_fitMany_0 0 rfl rfl)
theorem dX1_fitMany_1 : decode cX1_fitMany 1 = .ok (.istore_n 3, 1) := dk_62 (dk_at dksX1_fitMany_0 1 rfl rfl)
theorem dX1_fitMany_2 : decode cX1_fitMany 2 = .ok (.iconst 0, 1) := dk_3 (dk_at dksX1_fitMany_0 2 rfl rfl)
theorem dX1_fitMany_3 : decode cX1_fitMany 3 = .ok (.istore 4, 2) := dk_54 4 (dk_at dksX1_fitMany_0 3 rfl rfl)
theorem dX1_fitMany_5 : decode cX1_fitMany 5 = .ok (.iload 4, 2) := dk_21 4 (dk_at dksX1_fitMany_0 5 rfl rfl)
theorem dX1_fitMany_7 : decode cX1_fitMany 7 = .ok (.bipush 100, 2) := dk_16 100 (dk_at dksX1_fitMany_0 7 rfl rfl)
theorem dX1_fitMany_9 : decode cX1_fitMany 9 = .ok (.if_icmp .ge 28, 3) := dk_162 0 28 (dk_at dksX1_fitMany_0 9 rfl rfl)
theorem dX1_fitMany_12 : decode cX1_fitMany 12 = .ok (.iload_n 3, 1) := dk_29 (dk_at dksX1_fitMany_0 12 rfl rfl)
theorem dX1_fitMany_13 : decode cX1_fitMany 13 = .ok (.aload_n 0, 1) := dk_42 (dk_at dksX1_fitMany_0 13 rfl rfl)
theorem dX1_fitMany_14 : decode cX1_fitMany 14 = .ok (.iload 4, 2) := dk_21 4 (dk_at dksX1_fitMany_0 14 rfl rfl)
theorem dX1_fitMany_16 : decode cX1_fitMany 16 = .ok (.iload_n 1, 1) := dk_27 (dk_at dksX1_fitMany_0 16 rfl rfl)
theorem dX1_fitMany_17 : decode cX1_fitMany 17 = .ok (.iload_n 2, 1) := dk_28 (dk_at dksX1_fitMany_0 17 rfl rfl)
theorem dX1_fitMany_18 : decode cX1_fitMany 18 = .ok (.invokevirtual 257, 3) := dk_182 1 1 (dk_at dksX1_fitMany_0 18 rfl rfl)
theorem dX1_fitMany_21 : decode cX1_fitMany 21 = .ok (.ifCond .eq 7, 3) := dk_153 0 7 (dk_at dksX1_fitMany_0 21 rfl rfl)
theorem dX1_fitMany_24 : decode cX1_fitMany 24 = .ok (.iconst 1, 1) := dk_4 (dk_at dksX1_fitMany_1 0 rfl rfl)
theorem dX1_fitMany_25 : decode cX1_fitMany 25 = .ok (.goto 4, 3) := dk_167 0 4 (dk_at dksX1_fitMany_1 1 rfl rfl)
theorem dX1_fitMany_28 : decode cX1_fitMany 28 = .ok (.iconst 0, 1) := dk_3 (dk_at dksX1_fitMany_1 4 rfl rfl)
theorem dX1_fitMany_29 : decode cX1_fitMany 29 = .ok (.iadd, 1) := dk_96 (dk_at dksX1_fitMany_1 5 rfl rfl)
theorem dX1_fitMany_30 : decode cX1_fitMany 30 = .ok (.istore_n 3, 1) := dk_62 (dk_at dksX1_fitMany_1 6 rfl rfl)
theorem dX1_fitMany_31 : decode cX1_fitMany 31 = .ok (.iinc 4 1, 3) := dk_132 4 1 (dk_at dksX1_fitMany_1 7 rfl rfl)
theorem dX1_fitMany_34 : decode cX1_fitMany 34 = .ok (.goto (-29), 3) := dk_167 255 227 (dk_at dksX1_fitMany_1 10 rfl rfl)
theorem dX1_fitMany_37 : decode cX1_fitMany 37 = .ok (.iload_n 3, 1) := dk_29 (dk_at dksX1_fitMany_1 13 rfl rfl)
theorem dX1_fitMany_38 : decode cX1_fitMany 38 = .ok (.ireturn, 1) := dk_172 (dk_at dksX1_fitMany_1 14 rfl rfl)
abbrev cX1_agrees : ByteArray := prog_1_method_24_code
def yX1_agrees : MethodName := ⟨RX1, "agrees", "(III)Z"⟩
def dkwX1_agrees_5 : List UInt8 := [163, 0, 7, 4, 167, 0, 4, 3, 54, 4, 132, 5, 1, 167, 255, 132, 21, 4, 172]
abbrev dktX1_agrees_5 : List UInt8 := dkwX1_agrees_5 ++ []
def dkwX1_agrees_4 : List UInt8 := [54, 7, 21, 7, 156, 0, 9, 21, 7, 116, 167, 0, 5, 21, 7, 42, 180, 0, 63, 21, 5, 46]
abbrev dktX1_agrees_4 : List UInt8 := dkwX1_agrees_4 ++ dktX1_agrees_5
def dkwX1_agrees_3 : List UInt8 := [104, 21, 6, 96, 16, 7, 104, 42, 180, 0, 57, 21, 5, 46, 96, 46, 42, 180, 0, 60, 21, 5, 46, 100]
abbrev dktX1_agrees_3 : List UInt8 := dkwX1_agrees_3 ++ dktX1_agrees_4
def dkwX1_agrees_2 : List UInt8 := [167, 0, 15, 21, 6, 29, 160, 0, 7, 28, 167, 0, 5, 21, 6, 54, 6, 42, 180, 0, 66, 27, 16, 12]
abbrev dktX1_agrees_2 : List UInt8 := dkwX1_agrees_2 ++ dktX1_agrees_3
def dkwX1_agrees_1 : List UInt8 := [21, 5, 46, 54, 6, 42, 180, 0, 57, 21, 5, 46, 4, 164, 0, 27, 21, 6, 28, 160, 0, 7, 29]
abbrev dktX1_agrees_1 : List UInt8 := dkwX1_agrees_1 ++ dktX1_agrees_2
def dkwX1_agrees_0 : List UInt8 := [4, 54, 4, 3, 54, 5, 21, 5, 42, 180, 0, 146, 162, 0, 121, 21, 4, 153, 0, 116, 42, 180, 0, 54]
abbrev dktX1_agrees_0 : List UInt8 := dkwX1_agrees_0 ++ dktX1_agrees_1
theorem dksX1_agrees_0 : cX1_agrees.data.toList.drop 0 = dktX1_agrees_0 := by decide +kernel
theorem dksX1_agrees_1 : cX1_agrees.data.toList.drop 24 = dktX1_agrees_1 := dk_seg dksX1_agrees_0 24 rfl rfl
theorem dksX1_agrees_2 : cX1_agrees.data.toList.drop 47 = dktX1_agrees_2 := dk_seg dksX1_agrees_1 23 rfl rfl
theorem dksX1_agrees_3 : cX1_agrees.data.toList.drop 71 = dktX1_agrees_3 := dk_seg dksX1_agrees_2 24 rfl rfl
theorem dksX1_agrees_4 : cX1_agrees.data.toList.drop 95 = dktX1_agrees_4 := dk_seg dksX1_agrees_3 24 rfl rfl
theorem dksX1_agrees_5 : cX1_agrees.data.toList.drop 117 = dktX1_agrees_5 := dk_seg dksX1_agrees_4 22 rfl rfl
theorem dX1_agrees_0 : decode cX1_agrees 0 = .ok (.iconst 1, 1) := dk_4 (dk_at dksX1_agrees_0 0 rfl rfl)
theorem dX1_agrees_1 : decode cX1_agrees 1 = .ok (.istore 4, 2) := dk_54 4 (dk_at dksX1_agrees_0 1 rfl rfl)
theorem dX1_agrees_3 : decode cX1_agrees 3 = .ok (.iconst 0, 1) := dk_3 (dk_at dksX1_agrees_0 3 rfl rfl)
theorem dX1_agrees_4 : decode cX1_agrees 4 = .ok (.istore 5, 2) := dk_54 5 (dk_at dksX1_agrees_0 4 rfl rfl)
theorem dX1_agrees_6 : decode cX1_agrees 6 = .ok (.iload 5, 2) := dk_21 5 (dk_at dksX1_agrees_0 6 rfl rfl)
theorem dX1_agrees_8 : decode cX1_agrees 8 = .ok (.aload_n 0, 1) := dk_42 (dk_at dksX1_agrees_0 8 rfl rfl)
theorem dX1_agrees_9 : decode cX1_agrees 9 = .ok (.getfield 146, 3) := dk_180 0 146 (dk_at dksX1_agrees_0 9 rfl rfl)
theorem dX1_agrees_12 : decode cX1_agrees 12 = .ok (.if_icmp .ge 121, 3) := dk_162 0 121 (dk_at dksX1_agrees_0 12 rfl rfl)
theorem dX1_agrees_15 : decode cX1_agrees 15 = .ok (.iload 4, 2) := dk_21 4 (dk_at dksX1_agrees_0 15 rfl rfl)
theorem dX1_agrees_17 : decode cX1_agrees 17 = .ok (.ifCond .eq 116, 3) := dk_153 0 116 (dk_at dksX1_agrees_0 17 rfl rfl)
theorem dX1_agrees_20 : decode cX1_agrees 20 = .ok (.aload_n 0, 1) := dk_42 (dk_at dksX1_agrees_0 20 rfl rfl)
theorem dX1_agrees_21 : decode cX1_agrees 21 = .ok (.getfield 54, 3) := dk_180 0 54 (dk_at dksX1_agrees_0 21 rfl rfl)
theorem dX1_agrees_24 : decode cX1_agrees 24 = .ok (.iload 5, 2) := dk_21 5 (dk_at dksX1_agrees_1 0 rfl rfl)
theorem dX1_agrees_26 : decode cX1_agrees 26 = .ok (.iaload, 1) := dk_46 (dk_at dksX1_agrees_1 2 rfl rfl)
theorem dX1_agrees_27 : decode cX1_agrees 27 = .ok (.istore 6, 2) := dk_54 6 (dk_at dksX1_agrees_1 3 rfl rfl)
theorem dX1_agrees_29 : decode cX1_agrees 29 = .ok (.aload_n 0, 1) := dk_42 (dk_at dksX1_agrees_1 5 rfl rfl)
theorem dX1_agrees_30 : decode cX1_agrees 30 = .ok (.getfield 57, 3) := dk_180 0 57 (dk_at dksX1_agrees_1 6 rfl rfl)
theorem dX1_agrees_33 : decode cX1_agrees 33 = .ok (.iload 5, 2) := dk_21 5 (dk_at dksX1_agrees_1 9 rfl rfl)
theorem dX1_agrees_35 : decode cX1_agrees 35 = .ok (.iaload, 1) := dk_46 (dk_at dksX1_agrees_1 11 rfl rfl)
theorem dX1_agrees_36 : decode cX1_agrees 36 = .ok (.iconst 1, 1) := dk_4 (dk_at dksX1_agrees_1 12 rfl rfl)
theorem dX1_agrees_37 : decode cX1_agrees 37 = .ok (.if_icmp .le 27, 3) := dk_164 0 27 (dk_at dksX1_agrees_1 13 rfl rfl)
theorem dX1_agrees_40 : decode cX1_agrees 40 = .ok (.iload 6, 2) := dk_21 6 (dk_at dksX1_agrees_1 16 rfl rfl)
theorem dX1_agrees_42 : decode cX1_agrees 42 = .ok (.iload_n 2, 1) := dk_28 (dk_at dksX1_agrees_1 18 rfl rfl)
theorem dX1_agrees_43 : decode cX1_agrees 43 = .ok (.if_icmp .ne 7, 3) := dk_160 0 7 (dk_at dksX1_agrees_1 19 rfl rfl)
theorem dX1_agrees_46 : decode cX1_agrees 46 = .ok (.iload_n 3, 1) := dk_29 (dk_at dksX1_agrees_1 22 rfl rfl)
theorem dX1_agrees_47 : decode cX1_agrees 47 = .ok (.goto 15, 3) := dk_167 0 15 (dk_at dksX1_agrees_2 0 rfl rfl)
theorem dX1_agrees_50 : decode cX1_agrees 50 = .ok (.iload 6, 2) := dk_21 6 (dk_at dksX1_agrees_2 3 rfl rfl)
theorem dX1_agrees_52 : decode cX1_agrees 52 = .ok (.iload_n 3, 1) := dk_29 (dk_at dksX1_agrees_2 5 rfl rfl)
theorem dX1_agrees_53 : decode cX1_agrees 53 = .ok (.if_icmp .ne 7, 3) := dk_160 0 7 (dk_at dksX1_agrees_2 6 rfl rfl)
theorem dX1_agrees_56 : decode cX1_agrees 56 = .ok (.iload_n 2, 1) := dk_28 (dk_at dksX1_agrees_2 9 rfl rfl)
theorem dX1_agrees_57 : decode cX1_agrees 57 = .ok (.goto 5, 3) := dk_167 0 5 (dk_at dksX1_agrees_2 10 rfl rfl)
theorem dX1_agrees_60 : decode cX1_agrees 60 = .ok (.iload 6, 2) := dk_21 6 (dk_at dksX1_agrees_2 13 rfl rfl)
theorem dX1_agrees_62 : decode cX1_agrees 62 = .ok (.istore 6, 2) := dk_54 6 (dk_at dksX1_agrees_2 15 rfl rfl)
theorem dX1_agrees_64 : decode cX1_agrees 64 = .ok (.aload_n 0, 1) := dk_42 (dk_at dksX1_agrees_2 17 rfl rfl)
theorem dX1_agrees_65 : decode cX1_agrees 65 = .ok (.getfield 66, 3) := dk_180 0 66 (dk_at dksX1_agrees_2 18 rfl rfl)
theorem dX1_agrees_68 : decode cX1_agrees 68 = .ok (.iload_n 1, 1) := dk_27 (dk_at dksX1_agrees_2 21 rfl rfl)
theorem dX1_agrees_69 : decode cX1_agrees 69 = .ok (.bipush 12, 2) := dk_16 12 (dk_at dksX1_agrees_2 22 rfl rfl)
theorem dX1_agrees_71 : decode cX1_agrees 71 = .ok (.imul, 1) := dk_104 (dk_at dksX1_agrees_3 0 rfl rfl)
theorem dX1_agrees_72 : decode cX1_agrees 72 = .ok (.iload 6, 2) := dk_21 6 (dk_at dksX1_agrees_3 1 rfl rfl)
theorem dX1_agrees_74 : decode cX1_agrees 74 = .ok (.iadd, 1) := dk_96 (dk_at dksX1_agrees_3 3 rfl rfl)
theorem dX1_agrees_75 : decode cX1_agrees 75 = .ok (.bipush 7, 2) := dk_16 7 (dk_at dksX1_agrees_3 4 rfl rfl)
theorem dX1_agrees_77 : decode cX1_agrees 77 = .ok (.imul, 1) := dk_104 (dk_at dksX1_agrees_3 6 rfl rfl)
theorem dX1_agrees_78 : decode cX1_agrees 78 = .ok (.aload_n 0, 1) := dk_42 (dk_at dksX1_agrees_3 7 rfl rfl)
theorem dX1_agrees_79 : decode cX1_agrees 79 = .ok (.getfield 57, 3) := dk_180 0 57 (dk_at dksX1_agrees_3 8 rfl rfl)
theorem dX1_agrees_82 : decode cX1_agrees 82 = .ok (.iload 5, 2) := dk_21 5 (dk_at dksX1_agrees_3 11 rfl rfl)
theorem dX1_agrees_84 : decode cX1_agrees 84 = .ok (.iaload, 1) := dk_46 (dk_at dksX1_agrees_3 13 rfl rfl)
theorem dX1_agrees_85 : decode cX1_agrees 85 = .ok (.iadd, 1) := dk_96 (dk_at dksX1_agrees_3 14 rfl rfl)
theorem dX1_agrees_86 : decode cX1_agrees 86 = .ok (.iaload, 1) := dk_46 (dk_at dksX1_agrees_3 15 rfl rfl)
theorem dX1_agrees_87 : decode cX1_agrees 87 = .ok (.aload_n 0, 1) := dk_42 (dk_at dksX1_agrees_3 16 rfl rfl)
theorem dX1_agrees_88 : decode cX1_agrees 88 = .ok (.getfield 60, 3) := dk_180 0 60 (dk_at dksX1_agrees_3 17 rfl rfl)
theorem dX1_agrees_91 : decode cX1_agrees 91 = .ok (.iload 5, 2) := dk_21 5 (dk_at dksX1_agrees_3 20 rfl rfl)
theorem dX1_agrees_93 : decode cX1_agrees 93 = .ok (.iaload, 1) := dk_46 (dk_at dksX1_agrees_3 22 rfl rfl)
theorem dX1_agrees_94 : decode cX1_agrees 94 = .ok (.isub, 1) := dk_100 (dk_at dksX1_agrees_3 23 rfl rfl)
theorem dX1_agrees_95 : decode cX1_agrees 95 = .ok (.istore 7, 2) := dk_54 7 (dk_at dksX1_agrees_4 0 rfl rfl)
theorem dX1_agrees_97 : decode cX1_agrees 97 = .ok (.iload 7, 2) := dk_21 7 (dk_at dksX1_agrees_4 2 rfl rfl)
theorem dX1_agrees_99 : decode cX1_agrees 99 = .ok (.ifCond .ge 9, 3) := dk_156 0 9 (dk_at dksX1_agrees_4 4 rfl rfl)
theorem dX1_agrees_102 : decode cX1_agrees 102 = .ok (.iload 7, 2) := dk_21 7 (dk_at dksX1_agrees_4 7 rfl rfl)
theorem dX1_agrees_104 : decode cX1_agrees 104 = .ok (.ineg, 1) := dk_116 (dk_at dksX1_agrees_4 9 rfl rfl)
theorem dX1_agrees_105 : decode cX1_agrees 105 = .ok (.goto 5, 3) := dk_167 0 5 (dk_at dksX1_agrees_4 10 rfl rfl)
theorem dX1_agrees_108 : decode cX1_agrees 108 = .ok (.iload 7, 2) := dk_21 7 (dk_at dksX1_agrees_4 13 rfl rfl)
theorem dX1_agrees_110 : decode cX1_agrees 110 = .ok (.aload_n 0, 1) := dk_42 (dk_at dksX1_agrees_4 15 rfl rfl)
theorem dX1_agrees_111 : decode cX1_agrees 111 = .ok (.getfield 63, 3) := dk_180 0 63 (dk_at dksX1_agrees_4 16 rfl rfl)
theorem dX1_agrees_114 : decode cX1_agrees 114 = .ok (.iload 5, 2) := dk_21 5 (dk_at dksX1_agrees_4 19 rfl rfl)
theorem dX1_agrees_116 : decode cX1_agrees 116 = .ok (.iaload, 1) := dk_46 (dk_at dksX1_agrees_4 21 rfl rfl)
theorem dX1_agrees_117 : decode cX1_agrees 117 = .ok (.if_icmp .gt 7, 3) := dk_163 0 7 (dk_at dksX1_agrees_5 0 rfl rfl)
theorem dX1_agrees_120 : decode cX1_agrees 120 = .ok (.iconst 1, 1) := dk_4 (dk_at dksX1_agrees_5 3 rfl rfl)
theorem dX1_agrees_121 : decode cX1_agrees 121 = .ok (.goto 4, 3) := dk_167 0 4 (dk_at dksX1_agrees_5 4 rfl rfl)
theorem dX1_agrees_124 : decode cX1_agrees 124 = .ok (.iconst 0, 1) := dk_3 (dk_at dksX1_agrees_5 7 rfl rfl)
theorem dX1_agrees_125 : decode cX1_agrees 125 = .ok (.istore 4, 2) := dk_54 4 (dk_at dksX1_agrees_5 8 rfl rfl)
theorem dX1_agrees_127 : decode cX1_agrees 127 = .ok (.iinc 5 1, 3) := dk_132 5 1 (dk_at dksX1_agrees_5 10 rfl rfl)
theorem dX1_agrees_130 : decode cX1_agrees 130 = .ok (.goto (-124), 3) := dk_167 255 132 (dk_at dksX1_agrees_5 13 rfl rfl)
theorem dX1_agrees_133 : decode cX1_agrees 133 = .ok (.iload 4, 2) := dk_21 4 (dk_at dksX1_agrees_5 16 rfl rfl)
theorem dX1_agrees_135 : decode cX1_agrees 135 = .ok (.ireturn, 1) := dk_172 (dk_at dksX1_agrees_5 18 rfl rfl)
abbrev cX1_fitAt : ByteArray := prog_1_method_28_code
def yX1_fitAt : MethodName := ⟨RX1, "fitAt", "(II)I"⟩
def dkwX1_fitAt_3 : List UInt8 := [172, 132, 3, 1, 132, 4, 1, 167, 255, 217, 42, 4, 182, 0, 116, 172]
abbrev dktX1_fitAt_3 : List UInt8 := dkwX1_fitAt_3 ++ []
def dkwX1_fitAt_2 : List UInt8 := [21, 4, 2, 2, 182, 1, 1, 154, 0, 6, 167, 0, 18, 29, 27, 160, 0, 10, 21, 4, 28, 184, 1, 11]
abbrev dktX1_fitAt_2 : List UInt8 := dkwX1_fitAt_2 ++ dktX1_fitAt_3
def dkwX1_fitAt_1 : List UInt8 := [42, 4, 182, 0, 116, 172, 42, 182, 1, 4, 3, 62, 3, 54, 4, 21, 4, 16, 100, 162, 0, 38, 42]
abbrev dktX1_fitAt_1 : List UInt8 := dkwX1_fitAt_1 ++ dktX1_fitAt_2
def dkwX1_fitAt_0 : List UInt8 := [42, 182, 0, 102, 42, 180, 0, 127, 198, 0, 16, 27, 155, 0, 12, 28, 3, 5, 184, 0, 112, 154, 0, 9]
abbrev dktX1_fitAt_0 : List UInt8 := dkwX1_fitAt_0 ++ dktX1_fitAt_1
theorem dksX1_fitAt_0 : cX1_fitAt.data.toList.drop 0 = dktX1_fitAt_0 := by decide +kernel
theorem dksX1_fitAt_1 : cX1_fitAt.data.toList.drop 24 = dktX1_fitAt_1 := dk_seg dksX1_fitAt_0 24 rfl rfl
theorem dksX1_fitAt_2 : cX1_fitAt.data.toList.drop 47 = dktX1_fitAt_2 := dk_seg dksX1_fitAt_1 23 rfl rfl
theorem dksX1_fitAt_3 : cX1_fitAt.data.toList.drop 71 = dktX1_fitAt_3 := dk_seg dksX1_fitAt_2 24 rfl rfl
theorem dX1_fitAt_0 : decode cX1_fitAt 0 = .ok (.aload_n 0, 1) := dk_42 (dk_at dksX1_fitAt_0 0 rfl rfl)
theorem dX1_fitAt_1 : decode cX1_fitAt 1 = .ok (.invokevirtual 102, 3) := dk_182 0 102 (dk_at dksX1_fitAt_0 1 rfl rfl)
theorem dX1_fitAt_4 : decode cX1_fitAt 4 = .ok (.aload_n 0, 1) := dk_42 (dk_at dksX1_fitAt_0 4 rfl rfl)
theorem dX1_fitAt_5 : decode cX1_fitAt 5 = .ok (.getfield 127, 3) := dk_180 0 127 (dk_at dksX1_fitAt_0 5 rfl rfl)
theorem dX1_fitAt_8 : decode cX1_fitAt 8 = .ok (.ifnull 16, 3) := dk_198 0 16 (dk_at dksX1_fitAt_0 8 rfl rfl)
theorem dX1_fitAt_11 : decode cX1_fitAt 11 = .ok (.iload_n 1, 1) := dk_27 (dk_at dksX1_fitAt_0 11 rfl rfl)
theorem dX1_fitAt_12 : decode cX1_fitAt 12 = .ok (.ifCond .lt 12, 3) := dk_155 0 12 (dk_at dksX1_fitAt_0 12 rfl rfl)
theorem dX1_fitAt_15 : decode cX1_fitAt 15 = .ok (.iload_n 2, 1) := dk_28 (dk_at dksX1_fitAt_0 15 rfl rfl)
theorem dX1_fitAt_16 : decode cX1_fitAt 16 = .ok (.iconst 0, 1) := dk_3 (dk_at dksX1_fitAt_0 16 rfl rfl)
theorem dX1_fitAt_17 : decode cX1_fitAt 17 = .ok (.iconst 2, 1) := dk_5 (dk_at dksX1_fitAt_0 17 rfl rfl)
theorem dX1_fitAt_18 : decode cX1_fitAt 18 = .ok (.invokestatic 112, 3) := dk_184 0 112 (dk_at dksX1_fitAt_0 18 rfl rfl)
theorem dX1_fitAt_21 : decode cX1_fitAt 21 = .ok (.ifCond .ne 9, 3) := dk_154 0 9 (dk_at dksX1_fitAt_0 21 rfl rfl)
theorem dX1_fitAt_24 : decode cX1_fitAt 24 = .ok (.aload_n 0, 1) := dk_42 (dk_at dksX1_fitAt_1 0 rfl rfl)
theorem dX1_fitAt_25 : decode cX1_fitAt 25 = .ok (.iconst 1, 1) := dk_4 (dk_at dksX1_fitAt_1 1 rfl rfl)
theorem dX1_fitAt_26 : decode cX1_fitAt 26 = .ok (.invokevirtual 116, 3) := dk_182 0 116 (dk_at dksX1_fitAt_1 2 rfl rfl)
theorem dX1_fitAt_29 : decode cX1_fitAt 29 = .ok (.ireturn, 1) := dk_172 (dk_at dksX1_fitAt_1 5 rfl rfl)
theorem dX1_fitAt_30 : decode cX1_fitAt 30 = .ok (.aload_n 0, 1) := dk_42 (dk_at dksX1_fitAt_1 6 rfl rfl)
theorem dX1_fitAt_31 : decode cX1_fitAt 31 = .ok (.invokevirtual 260, 3) := dk_182 1 4 (dk_at dksX1_fitAt_1 7 rfl rfl)
theorem dX1_fitAt_34 : decode cX1_fitAt 34 = .ok (.iconst 0, 1) := dk_3 (dk_at dksX1_fitAt_1 10 rfl rfl)
theorem dX1_fitAt_35 : decode cX1_fitAt 35 = .ok (.istore_n 3, 1) := dk_62 (dk_at dksX1_fitAt_1 11 rfl rfl)
theorem dX1_fitAt_36 : decode cX1_fitAt 36 = .ok (.iconst 0, 1) := dk_3 (dk_at dksX1_fitAt_1 12 rfl rfl)
theorem dX1_fitAt_37 : decode cX1_fitAt 37 = .ok (.istore 4, 2) := dk_54 4 (dk_at dksX1_fitAt_1 13 rfl rfl)
theorem dX1_fitAt_39 : decode cX1_fitAt 39 = .ok (.iload 4, 2) := dk_21 4 (dk_at dksX1_fitAt_1 15 rfl rfl)
theorem dX1_fitAt_41 : decode cX1_fitAt 41 = .ok (.bipush 100, 2) := dk_16 100 (dk_at dksX1_fitAt_1 17 rfl rfl)
theorem dX1_fitAt_43 : decode cX1_fitAt 43 = .ok (.if_icmp .ge 38, 3) := dk_162 0 38 (dk_at dksX1_fitAt_1 19 rfl rfl)
theorem dX1_fitAt_46 : decode cX1_fitAt 46 = .ok (.aload_n 0, 1) := dk_42 (dk_at dksX1_fitAt_1 22 rfl rfl)
theorem dX1_fitAt_47 : decode cX1_fitAt 47 = .ok (.iload 4, 2) := dk_21 4 (dk_at dksX1_fitAt_2 0 rfl rfl)
theorem dX1_fitAt_49 : decode cX1_fitAt 49 = .ok (.iconst (-1), 1) := dk_2 (dk_at dksX1_fitAt_2 2 rfl rfl)
theorem dX1_fitAt_50 : decode cX1_fitAt 50 = .ok (.iconst (-1), 1) := dk_2 (dk_at dksX1_fitAt_2 3 rfl rfl)
theorem dX1_fitAt_51 : decode cX1_fitAt 51 = .ok (.invokevirtual 257, 3) := dk_182 1 1 (dk_at dksX1_fitAt_2 4 rfl rfl)
theorem dX1_fitAt_54 : decode cX1_fitAt 54 = .ok (.ifCond .ne 6, 3) := dk_154 0 6 (dk_at dksX1_fitAt_2 7 rfl rfl)
theorem dX1_fitAt_57 : decode cX1_fitAt 57 = .ok (.goto 18, 3) := dk_167 0 18 (dk_at dksX1_fitAt_2 10 rfl rfl)
theorem dX1_fitAt_60 : decode cX1_fitAt 60 = .ok (.iload_n 3, 1) := dk_29 (dk_at dksX1_fitAt_2 13 rfl rfl)
theorem dX1_fitAt_61 : decode cX1_fitAt 61 = .ok (.iload_n 1, 1) := dk_27 (dk_at dksX1_fitAt_2 14 rfl rfl)
theorem dX1_fitAt_62 : decode cX1_fitAt 62 = .ok (.if_icmp .ne 10, 3) := dk_160 0 10 (dk_at dksX1_fitAt_2 15 rfl rfl)
theorem dX1_fitAt_65 : decode cX1_fitAt 65 = .ok (.iload 4, 2) := dk_21 4 (dk_at dksX1_fitAt_2 18 rfl rfl)
theorem dX1_fitAt_67 : decode cX1_fitAt 67 = .ok (.iload_n 2, 1) := dk_28 (dk_at dksX1_fitAt_2 20 rfl rfl)
theorem dX1_fitAt_68 : decode cX1_fitAt 68 = .ok (.invokestatic 267, 3) := dk_184 1 11 (dk_at dksX1_fitAt_2 21 rfl rfl)
theorem dX1_fitAt_71 : decode cX1_fitAt 71 = .ok (.ireturn, 1) := dk_172 (dk_at dksX1_fitAt_3 0 rfl rfl)
theorem dX1_fitAt_72 : decode cX1_fitAt 72 = .ok (.iinc 3 1, 3) := dk_132 3 1 (dk_at dksX1_fitAt_3 1 rfl rfl)
theorem dX1_fitAt_75 : decode cX1_fitAt 75 = .ok (.iinc 4 1, 3) := dk_132 4 1 (dk_at dksX1_fitAt_3 4 rfl rfl)
theorem dX1_fitAt_78 : decode cX1_fitAt 78 = .ok (.goto (-39), 3) := dk_167 255 217 (dk_at dksX1_fitAt_3 7 rfl rfl)
theorem dX1_fitAt_81 : decode cX1_fitAt 81 = .ok (.aload_n 0, 1) := dk_42 (dk_at dksX1_fitAt_3 10 rfl rfl)
theorem dX1_fitAt_82 : decode cX1_fitAt 82 = .ok (.iconst 1, 1) := dk_4 (dk_at dksX1_fitAt_3 11 rfl rfl)
theorem dX1_fitAt_83 : decode cX1_fitAt 83 = .ok (.invokevirtual 116, 3) := dk_182 0 116 (dk_at dksX1_fitAt_3 12 rfl rfl)
theorem dX1_fitAt_86 : decode cX1_fitAt 86 = .ok (.ireturn, 1) := dk_172 (dk_at dksX1_fitAt_3 15 rfl rfl)
abbrev cX1_partOf : ByteArray := prog_1_method_27_code
def yX1_partOf : MethodName := ⟨RX1, "partOf", "(II)I"⟩
def dkwX1_partOf_1 : List UInt8 := [26, 8, 112, 172]
abbrev dktX1_partOf_1 : List UInt8 := dkwX1_partOf_1 ++ []
def dkwX1_partOf_0 : List UInt8 := [27, 154, 0, 10, 26, 16, 25, 108, 167, 0, 19, 27, 4, 160, 0, 11, 26, 8, 108, 8, 112, 167, 0, 6]
abbrev dktX1_partOf_0 : List UInt8 := dkwX1_partOf_0 ++ dktX1_partOf_1
theorem dksX1_partOf_0 : cX1_partOf.data.toList.drop 0 = dktX1_partOf_0 := by decide +kernel
theorem dksX1_partOf_1 : cX1_partOf.data.toList.drop 24 = dktX1_partOf_1 := dk_seg dksX1_partOf_0 24 rfl rfl
theorem dX1_partOf_0 : decode cX1_partOf 0 = .ok (.iload_n 1, 1) := dk_27 (dk_at dksX1_partOf_0 0 rfl rfl)
theorem dX1_partOf_1 : decode cX1_partOf 1 = .ok (.ifCond .ne 10, 3) := dk_154 0 10 (dk_at dksX1_partOf_0 1 rfl rfl)
theorem dX1_partOf_4 : decode cX1_partOf 4 = .ok (.iload_n 0, 1) := dk_26 (dk_at dksX1_partOf_0 4 rfl rfl)
theorem dX1_partOf_5 : decode cX1_partOf 5 = .ok (.bipush 25, 2) := dk_16 25 (dk_at dksX1_partOf_0 5 rfl rfl)
theorem dX1_partOf_7 : decode cX1_partOf 7 = .ok (.idiv, 1) := dk_108 (dk_at dksX1_partOf_0 7 rfl rfl)
theorem dX1_partOf_8 : decode cX1_partOf 8 = .ok (.goto 19, 3) := dk_167 0 19 (dk_at dksX1_partOf_0 8 rfl rfl)
theorem dX1_partOf_11 : decode cX1_partOf 11 = .ok (.iload_n 1, 1) := dk_27 (dk_at dksX1_partOf_0 11 rfl rfl)
theorem dX1_partOf_12 : decode cX1_partOf 12 = .ok (.iconst 1, 1) := dk_4 (dk_at dksX1_partOf_0 12 rfl rfl)
theorem dX1_partOf_13 : decode cX1_partOf 13 = .ok (.if_icmp .ne 11, 3) := dk_160 0 11 (dk_at dksX1_partOf_0 13 rfl rfl)
theorem dX1_partOf_16 : decode cX1_partOf 16 = .ok (.iload_n 0, 1) := dk_26 (dk_at dksX1_partOf_0 16 rfl rfl)
theorem dX1_partOf_17 : decode cX1_partOf 17 = .ok (.iconst 5, 1) := dk_8 (dk_at dksX1_partOf_0 17 rfl rfl)
theorem dX1_partOf_18 : decode cX1_partOf 18 = .ok (.idiv, 1) := dk_108 (dk_at dksX1_partOf_0 18 rfl rfl)
theorem dX1_partOf_19 : decode cX1_partOf 19 = .ok (.iconst 5, 1) := dk_8 (dk_at dksX1_partOf_0 19 rfl rfl)
theorem dX1_partOf_20 : decode cX1_partOf 20 = .ok (.irem, 1) := dk_112 (dk_at dksX1_partOf_0 20 rfl rfl)
theorem dX1_partOf_21 : decode cX1_partOf 21 = .ok (.goto 6, 3) := dk_167 0 6 (dk_at dksX1_partOf_0 21 rfl rfl)
theorem dX1_partOf_24 : decode cX1_partOf 24 = .ok (.iload_n 0, 1) := dk_26 (dk_at dksX1_partOf_1 0 rfl rfl)
theorem dX1_partOf_25 : decode cX1_partOf 25 = .ok (.iconst 5, 1) := dk_8 (dk_at dksX1_partOf_1 1 rfl rfl)
theorem dX1_partOf_26 : decode cX1_partOf 26 = .ok (.irem, 1) := dk_112 (dk_at dksX1_partOf_1 2 rfl rfl)
theorem dX1_partOf_27 : decode cX1_partOf 27 = .ok (.ireturn, 1) := dk_172 (dk_at dksX1_partOf_1 3 rfl rfl)
abbrev cX1_certain : ByteArray := prog_1_method_29_code
def yX1_certain : MethodName := ⟨RX1, "certain", "(I)I"⟩
def dkwX1_certain_4 : List UInt8 := [16, 6, 182, 0, 116, 167, 0, 4, 28, 172]
abbrev dktX1_certain_4 : List UInt8 := dkwX1_certain_4 ++ []
def dkwX1_certain_3 : List UInt8 := [160, 0, 8, 21, 4, 167, 0, 5, 16, 254, 61, 132, 3, 1, 167, 255, 208, 28, 2, 160, 0, 12, 42]
abbrev dktX1_certain_3 : List UInt8 := dkwX1_certain_3 ++ dktX1_certain_4
def dkwX1_certain_2 : List UInt8 := [182, 1, 1, 154, 0, 6, 167, 0, 29, 29, 27, 184, 1, 11, 54, 4, 28, 2, 159, 0, 9, 28, 21, 4]
abbrev dktX1_certain_2 : List UInt8 := dkwX1_certain_2 ++ dktX1_certain_3
def dkwX1_certain_1 : List UInt8 := [182, 0, 116, 172, 42, 182, 1, 4, 2, 61, 3, 62, 29, 16, 100, 162, 0, 48, 42, 29, 2, 2]
abbrev dktX1_certain_1 : List UInt8 := dkwX1_certain_1 ++ dktX1_certain_2
def dkwX1_certain_0 : List UInt8 := [42, 182, 0, 102, 42, 180, 0, 127, 198, 0, 12, 27, 3, 5, 184, 0, 112, 154, 0, 9, 42, 4]
abbrev dktX1_certain_0 : List UInt8 := dkwX1_certain_0 ++ dktX1_certain_1
theorem dksX1_certain_0 : cX1_certain.data.toList.drop 0 = dktX1_certain_0 := by decide +kernel
theorem dksX1_certain_1 : cX1_certain.data.toList.drop 22 = dktX1_certain_1 := dk_seg dksX1_certain_0 22 rfl rfl
theorem dksX1_certain_2 : cX1_certain.data.toList.drop 44 = dktX1_certain_2 := dk_seg dksX1_certain_1 22 rfl rfl
theorem dksX1_certain_3 : cX1_certain.data.toList.drop 68 = dktX1_certain_3 := dk_seg dksX1_certain_2 24 rfl rfl
theorem dksX1_certain_4 : cX1_certain.data.toList.drop 91 = dktX1_certain_4 := dk_seg dksX1_certain_3 23 rfl rfl
theorem dX1_certain_0 : decode cX1_certain 0 = .ok (.aload_n 0, 1) := dk_42 (dk_at dksX1_certain_0 0 rfl rfl)
theorem dX1_certain_1 : decode cX1_certain 1 = .ok (.invokevirtual 102, 3) := dk_182 0 102 (dk_at dksX1_certain_0 1 rfl rfl)
theorem dX1_certain_4 : decode cX1_certain 4 = .ok (.aload_n 0, 1) := dk_42 (dk_at dksX1_certain_0 4 rfl rfl)
theorem dX1_certain_5 : decode cX1_certain 5 = .ok (.getfield 127, 3) := dk_180 0 127 (dk_at dksX1_certain_0 5 rfl rfl)
theorem dX1_certain_8 : decode cX1_certain 8 = .ok (.ifnull 12, 3) := dk_198 0 12 (dk_at dksX1_certain_0 8 rfl rfl)
theorem dX1_certain_11 : decode cX1_certain 11 = .ok (.iload_n 1, 1) := dk_27 (dk_at dksX1_certain_0 11 rfl rfl)
theorem dX1_certain_12 : decode cX1_certain 12 = .ok (.iconst 0, 1) := dk_3 (dk_at dksX1_certain_0 12 rfl rfl)
theorem dX1_certain_13 : decode cX1_certain 13 = .ok (.iconst 2, 1) := dk_5 (dk_at dksX1_certain_0 13 rfl rfl)
theorem dX1_certain_14 : decode cX1_certain 14 = .ok (.invokestatic 112, 3) := dk_184 0 112 (dk_at dksX1_certain_0 14 rfl rfl)
theorem dX1_certain_17 : decode cX1_certain 17 = .ok (.ifCond .ne 9, 3) := dk_154 0 9 (dk_at dksX1_certain_0 17 rfl rfl)
theorem dX1_certain_20 : decode cX1_certain 20 = .ok (.aload_n 0, 1) := dk_42 (dk_at dksX1_certain_0 20 rfl rfl)
theorem dX1_certain_21 : decode cX1_certain 21 = .ok (.iconst 1, 1) := dk_4 (dk_at dksX1_certain_0 21 rfl rfl)
theorem dX1_certain_22 : decode cX1_certain 22 = .ok (.invokevirtual 116, 3) := dk_182 0 116 (dk_at dksX1_certain_1 0 rfl rfl)
theorem dX1_certain_25 : decode cX1_certain 25 = .ok (.ireturn, 1) := dk_172 (dk_at dksX1_certain_1 3 rfl rfl)
theorem dX1_certain_26 : decode cX1_certain 26 = .ok (.aload_n 0, 1) := dk_42 (dk_at dksX1_certain_1 4 rfl rfl)
theorem dX1_certain_27 : decode cX1_certain 27 = .ok (.invokevirtual 260, 3) := dk_182 1 4 (dk_at dksX1_certain_1 5 rfl rfl)
theorem dX1_certain_30 : decode cX1_certain 30 = .ok (.iconst (-1), 1) := dk_2 (dk_at dksX1_certain_1 8 rfl rfl)
theorem dX1_certain_31 : decode cX1_certain 31 = .ok (.istore_n 2, 1) := dk_61 (dk_at dksX1_certain_1 9 rfl rfl)
theorem dX1_certain_32 : decode cX1_certain 32 = .ok (.iconst 0, 1) := dk_3 (dk_at dksX1_certain_1 10 rfl rfl)
theorem dX1_certain_33 : decode cX1_certain 33 = .ok (.istore_n 3, 1) := dk_62 (dk_at dksX1_certain_1 11 rfl rfl)
theorem dX1_certain_34 : decode cX1_certain 34 = .ok (.iload_n 3, 1) := dk_29 (dk_at dksX1_certain_1 12 rfl rfl)
theorem dX1_certain_35 : decode cX1_certain 35 = .ok (.bipush 100, 2) := dk_16 100 (dk_at dksX1_certain_1 13 rfl rfl)
theorem dX1_certain_37 : decode cX1_certain 37 = .ok (.if_icmp .ge 48, 3) := dk_162 0 48 (dk_at dksX1_certain_1 15 rfl rfl)
theorem dX1_certain_40 : decode cX1_certain 40 = .ok (.aload_n 0, 1) := dk_42 (dk_at dksX1_certain_1 18 rfl rfl)
theorem dX1_certain_41 : decode cX1_certain 41 = .ok (.iload_n 3, 1) := dk_29 (dk_at dksX1_certain_1 19 rfl rfl)
theorem dX1_certain_42 : decode cX1_certain 42 = .ok (.iconst (-1), 1) := dk_2 (dk_at dksX1_certain_1 20 rfl rfl)
theorem dX1_certain_43 : decode cX1_certain 43 = .ok (.iconst (-1), 1) := dk_2 (dk_at dksX1_certain_1 21 rfl rfl)
theorem dX1_certain_44 : decode cX1_certain 44 = .ok (.invokevirtual 257, 3) := dk_182 1 1 (dk_at dksX1_certain_2 0 rfl rfl)
theorem dX1_certain_47 : decode cX1_certain 47 = .ok (.ifCond .ne 6, 3) := dk_154 0 6 (dk_at dksX1_certain_2 3 rfl rfl)
theorem dX1_certain_50 : decode cX1_certain 50 = .ok (.goto 29, 3) := dk_167 0 29 (dk_at dksX1_certain_2 6 rfl rfl)
theorem dX1_certain_53 : decode cX1_certain 53 = .ok (.iload_n 3, 1) := dk_29 (dk_at dksX1_certain_2 9 rfl rfl)
theorem dX1_certain_54 : decode cX1_certain 54 = .ok (.iload_n 1, 1) := dk_27 (dk_at dksX1_certain_2 10 rfl rfl)
theorem dX1_certain_55 : decode cX1_certain 55 = .ok (.invokestatic 267, 3) := dk_184 1 11 (dk_at dksX1_certain_2 11 rfl rfl)
theorem dX1_certain_58 : decode cX1_certain 58 = .ok (.istore 4, 2) := dk_54 4 (dk_at dksX1_certain_2 14 rfl rfl)
theorem dX1_certain_60 : decode cX1_certain 60 = .ok (.iload_n 2, 1) := dk_28 (dk_at dksX1_certain_2 16 rfl rfl)
theorem dX1_certain_61 : decode cX1_certain 61 = .ok (.iconst (-1), 1) := dk_2 (dk_at dksX1_certain_2 17 rfl rfl)
theorem dX1_certain_62 : decode cX1_certain 62 = .ok (.if_icmp .eq 9, 3) := dk_159 0 9 (dk_at dksX1_certain_2 18 rfl rfl)
theorem dX1_certain_65 : decode cX1_certain 65 = .ok (.iload_n 2, 1) := dk_28 (dk_at dksX1_certain_2 21 rfl rfl)
theorem dX1_certain_66 : decode cX1_certain 66 = .ok (.iload 4, 2) := dk_21 4 (dk_at dksX1_certain_2 22 rfl rfl)
theorem dX1_certain_68 : decode cX1_certain 68 = .ok (.if_icmp .ne 8, 3) := dk_160 0 8 (dk_at dksX1_certain_3 0 rfl rfl)
theorem dX1_certain_71 : decode cX1_certain 71 = .ok (.iload 4, 2) := dk_21 4 (dk_at dksX1_certain_3 3 rfl rfl)
theorem dX1_certain_73 : decode cX1_certain 73 = .ok (.goto 5, 3) := dk_167 0 5 (dk_at dksX1_certain_3 5 rfl rfl)
theorem dX1_certain_76 : decode cX1_certain 76 = .ok (.bipush (-2), 2) := dk_16 254 (dk_at dksX1_certain_3 8 rfl rfl)
theorem dX1_certain_78 : decode cX1_certain 78 = .ok (.istore_n 2, 1) := dk_61 (dk_at dksX1_certain_3 10 rfl rfl)
theorem dX1_certain_79 : decode cX1_certain 79 = .ok (.iinc 3 1, 3) := dk_132 3 1 (dk_at dksX1_certain_3 11 rfl rfl)
theorem dX1_certain_82 : decode cX1_certain 82 = .ok (.goto (-48), 3) := dk_167 255 208 (dk_at dksX1_certain_3 14 rfl rfl)
theorem dX1_certain_85 : decode cX1_certain 85 = .ok (.iload_n 2, 1) := dk_28 (dk_at dksX1_certain_3 17 rfl rfl)
theorem dX1_certain_86 : decode cX1_certain 86 = .ok (.iconst (-1), 1) := dk_2 (dk_at dksX1_certain_3 18 rfl rfl)
theorem dX1_certain_87 : decode cX1_certain 87 = .ok (.if_icmp .ne 12, 3) := dk_160 0 12 (dk_at dksX1_certain_3 19 rfl rfl)
theorem dX1_certain_90 : decode cX1_certain 90 = .ok (.aload_n 0, 1) := dk_42 (dk_at dksX1_certain_3 22 rfl rfl)
theorem dX1_certain_91 : decode cX1_certain 91 = .ok (.bipush 6, 2) := dk_16 6 (dk_at dksX1_certain_4 0 rfl rfl)
theorem dX1_certain_93 : decode cX1_certain 93 = .ok (.invokevirtual 116, 3) := dk_182 0 116 (dk_at dksX1_certain_4 2 rfl rfl)
theorem dX1_certain_96 : decode cX1_certain 96 = .ok (.goto 4, 3) := dk_167 0 4 (dk_at dksX1_certain_4 5 rfl rfl)
theorem dX1_certain_99 : decode cX1_certain 99 = .ok (.iload_n 2, 1) := dk_28 (dk_at dksX1_certain_4 8 rfl rfl)
theorem dX1_certain_100 : decode cX1_certain 100 = .ok (.ireturn, 1) := dk_172 (dk_at dksX1_certain_4 9 rfl rfl)
abbrev cX1_guess : ByteArray := prog_1_method_31_code
def yX1_guess : MethodName := ⟨RX1, "guess", "(IIIII)I"⟩
def dkwX1_guess_4 : List UInt8 := [184, 0, 253, 172]
abbrev dktX1_guess_4 : List UInt8 := dkwX1_guess_4 ++ []
def dkwX1_guess_3 : List UInt8 := [180, 0, 46, 21, 6, 50, 1, 182, 0, 193, 132, 6, 1, 167, 255, 227, 42, 180, 0, 33, 21, 5]
abbrev dktX1_guess_3 : List UInt8 := dkwX1_guess_3 ++ dktX1_guess_4
def dkwX1_guess_2 : List UInt8 := [182, 0, 249, 3, 54, 6, 21, 6, 21, 4, 163, 0, 28, 42, 180, 0, 33, 42, 180, 0, 127, 42]
abbrev dktX1_guess_2 : List UInt8 := dkwX1_guess_2 ++ dktX1_guess_3
def dkwX1_guess_1 : List UInt8 := [29, 182, 1, 14, 154, 0, 9, 42, 5, 182, 0, 116, 172, 42, 180, 0, 33, 42, 180, 0, 127, 27, 28, 29]
abbrev dktX1_guess_1 : List UInt8 := dkwX1_guess_1 ++ dktX1_guess_2
def dkwX1_guess_0 : List UInt8 := [42, 182, 0, 102, 42, 21, 4, 21, 5, 182, 0, 244, 154, 0, 9, 42, 4, 182, 0, 116, 172, 42, 27, 28]
abbrev dktX1_guess_0 : List UInt8 := dkwX1_guess_0 ++ dktX1_guess_1
theorem dksX1_guess_0 : cX1_guess.data.toList.drop 0 = dktX1_guess_0 := by decide +kernel
theorem dksX1_guess_1 : cX1_guess.data.toList.drop 24 = dktX1_guess_1 := dk_seg dksX1_guess_0 24 rfl rfl
theorem dksX1_guess_2 : cX1_guess.data.toList.drop 48 = dktX1_guess_2 := dk_seg dksX1_guess_1 24 rfl rfl
theorem dksX1_guess_3 : cX1_guess.data.toList.drop 70 = dktX1_guess_3 := dk_seg dksX1_guess_2 22 rfl rfl
theorem dksX1_guess_4 : cX1_guess.data.toList.drop 92 = dktX1_guess_4 := dk_seg dksX1_guess_3 22 rfl rfl
theorem dX1_guess_0 : decode cX1_guess 0 = .ok (.aload_n 0, 1) := dk_42 (dk_at dksX1_guess_0 0 rfl rfl)
theorem dX1_guess_1 : decode cX1_guess 1 = .ok (.invokevirtual 102, 3) := dk_182 0 102 (dk_at dksX1_guess_0 1 rfl rfl)
theorem dX1_guess_4 : decode cX1_guess 4 = .ok (.aload_n 0, 1) := dk_42 (dk_at dksX1_guess_0 4 rfl rfl)
theorem dX1_guess_5 : decode cX1_guess 5 = .ok (.iload 4, 2) := dk_21 4 (dk_at dksX1_guess_0 5 rfl rfl)
theorem dX1_guess_7 : decode cX1_guess 7 = .ok (.iload 5, 2) := dk_21 5 (dk_at dksX1_guess_0 7 rfl rfl)
theorem dX1_guess_9 : decode cX1_guess 9 = .ok (.invokevirtual 244, 3) := dk_182 0 244 (dk_at dksX1_guess_0 9 rfl rfl)
theorem dX1_guess_12 : decode cX1_guess 12 = .ok (.ifCond .ne 9, 3) := dk_154 0 9 (dk_at dksX1_guess_0 12 rfl rfl)
theorem dX1_guess_15 : decode cX1_guess 15 = .ok (.aload_n 0, 1) := dk_42 (dk_at dksX1_guess_0 15 rfl rfl)
theorem dX1_guess_16 : decode cX1_guess 16 = .ok (.iconst 1, 1) := dk_4 (dk_at dksX1_guess_0 16 rfl rfl)
theorem dX1_guess_17 : decode cX1_guess 17 = .ok (.invokevirtual 116, 3) := dk_182 0 116 (dk_at dksX1_guess_0 17 rfl rfl)
theorem dX1_guess_20 : decode cX1_guess 20 = .ok (.ireturn, 1) := dk_172 (dk_at dksX1_guess_0 20 rfl rfl)
theorem dX1_guess_21 : decode cX1_guess 21 = .ok (.aload_n 0, 1) := dk_42 (dk_at dksX1_guess_0 21 rfl rfl)
theorem dX1_guess_22 : decode cX1_guess 22 = .ok (.iload_n 1, 1) := dk_27 (dk_at dksX1_guess_0 22 rfl rfl)
theorem dX1_guess_23 : decode cX1_guess 23 = .ok (.iload_n 2, 1) := dk_28 (dk_at dksX1_guess_0 23 rfl rfl)
theorem dX1_guess_24 : decode cX1_guess 24 = .ok (.iload_n 3, 1) := dk_29 (dk_at dksX1_guess_1 0 rfl rfl)
theorem dX1_guess_25 : decode cX1_guess 25 = .ok (.invokevirtual 270, 3) := dk_182 1 14 (dk_at dksX1_guess_1 1 rfl rfl)
theorem dX1_guess_28 : decode cX1_guess 28 = .ok (.ifCond .ne 9, 3) := dk_154 0 9 (dk_at dksX1_guess_1 4 rfl rfl)
theorem dX1_guess_31 : decode cX1_guess 31 = .ok (.aload_n 0, 1) := dk_42 (dk_at dksX1_guess_1 7 rfl rfl)
theorem dX1_guess_32 : decode cX1_guess 32 = .ok (.iconst 2, 1) := dk_5 (dk_at dksX1_guess_1 8 rfl rfl)
theorem dX1_guess_33 : decode cX1_guess 33 = .ok (.invokevirtual 116, 3) := dk_182 0 116 (dk_at dksX1_guess_1 9 rfl rfl)
theorem dX1_guess_36 : decode cX1_guess 36 = .ok (.ireturn, 1) := dk_172 (dk_at dksX1_guess_1 12 rfl rfl)
theorem dX1_guess_37 : decode cX1_guess 37 = .ok (.aload_n 0, 1) := dk_42 (dk_at dksX1_guess_1 13 rfl rfl)
theorem dX1_guess_38 : decode cX1_guess 38 = .ok (.getfield 33, 3) := dk_180 0 33 (dk_at dksX1_guess_1 14 rfl rfl)
theorem dX1_guess_41 : decode cX1_guess 41 = .ok (.aload_n 0, 1) := dk_42 (dk_at dksX1_guess_1 17 rfl rfl)
theorem dX1_guess_42 : decode cX1_guess 42 = .ok (.getfield 127, 3) := dk_180 0 127 (dk_at dksX1_guess_1 18 rfl rfl)
theorem dX1_guess_45 : decode cX1_guess 45 = .ok (.iload_n 1, 1) := dk_27 (dk_at dksX1_guess_1 21 rfl rfl)
theorem dX1_guess_46 : decode cX1_guess 46 = .ok (.iload_n 2, 1) := dk_28 (dk_at dksX1_guess_1 22 rfl rfl)
theorem dX1_guess_47 : decode cX1_guess 47 = .ok (.iload_n 3, 1) := dk_29 (dk_at dksX1_guess_1 23 rfl rfl)
theorem dX1_guess_48 : decode cX1_guess 48 = .ok (.invokevirtual 249, 3) := dk_182 0 249 (dk_at dksX1_guess_2 0 rfl rfl)
theorem dX1_guess_51 : decode cX1_guess 51 = .ok (.iconst 0, 1) := dk_3 (dk_at dksX1_guess_2 3 rfl rfl)
theorem dX1_guess_52 : decode cX1_guess 52 = .ok (.istore 6, 2) := dk_54 6 (dk_at dksX1_guess_2 4 rfl rfl)
theorem dX1_guess_54 : decode cX1_guess 54 = .ok (.iload 6, 2) := dk_21 6 (dk_at dksX1_guess_2 6 rfl rfl)
theorem dX1_guess_56 : decode cX1_guess 56 = .ok (.iload 4, 2) := dk_21 4 (dk_at dksX1_guess_2 8 rfl rfl)
theorem dX1_guess_58 : decode cX1_guess 58 = .ok (.if_icmp .gt 28, 3) := dk_163 0 28 (dk_at dksX1_guess_2 10 rfl rfl)
theorem dX1_guess_61 : decode cX1_guess 61 = .ok (.aload_n 0, 1) := dk_42 (dk_at dksX1_guess_2 13 rfl rfl)
theorem dX1_guess_62 : decode cX1_guess 62 = .ok (.getfield 33, 3) := dk_180 0 33 (dk_at dksX1_guess_2 14 rfl rfl)
theorem dX1_guess_65 : decode cX1_guess 65 = .ok (.aload_n 0, 1) := dk_42 (dk_at dksX1_guess_2 17 rfl rfl)
theorem dX1_guess_66 : decode cX1_guess 66 = .ok (.getfield 127, 3) := dk_180 0 127 (dk_at dksX1_guess_2 18 rfl rfl)
theorem dX1_guess_69 : decode cX1_guess 69 = .ok (.aload_n 0, 1) := dk_42 (dk_at dksX1_guess_2 21 rfl rfl)
theorem dX1_guess_70 : decode cX1_guess 70 = .ok (.getfield 46, 3) := dk_180 0 46 (dk_at dksX1_guess_3 0 rfl rfl)
theorem dX1_guess_73 : decode cX1_guess 73 = .ok (.iload 6, 2) := dk_21 6 (dk_at dksX1_guess_3 3 rfl rfl)
theorem dX1_guess_75 : decode cX1_guess 75 = .ok (.aaload, 1) := dk_50 (dk_at dksX1_guess_3 5 rfl rfl)
theorem dX1_guess_76 : decode cX1_guess 76 = .ok (.aconst_null, 1) := dk_1 (dk_at dksX1_guess_3 6 rfl rfl)
theorem dX1_guess_77 : decode cX1_guess 77 = .ok (.invokevirtual 193, 3) := dk_182 0 193 (dk_at dksX1_guess_3 7 rfl rfl)
theorem dX1_guess_80 : decode cX1_guess 80 = .ok (.iinc 6 1, 3) := dk_132 6 1 (dk_at dksX1_guess_3 10 rfl rfl)
theorem dX1_guess_83 : decode cX1_guess 83 = .ok (.goto (-29), 3) := dk_167 255 227 (dk_at dksX1_guess_3 13 rfl rfl)
theorem dX1_guess_86 : decode cX1_guess 86 = .ok (.aload_n 0, 1) := dk_42 (dk_at dksX1_guess_3 16 rfl rfl)
theorem dX1_guess_87 : decode cX1_guess 87 = .ok (.getfield 33, 3) := dk_180 0 33 (dk_at dksX1_guess_3 17 rfl rfl)
theorem dX1_guess_90 : decode cX1_guess 90 = .ok (.iload 5, 2) := dk_21 5 (dk_at dksX1_guess_3 20 rfl rfl)
theorem dX1_guess_92 : decode cX1_guess 92 = .ok (.invokestatic 253, 3) := dk_184 0 253 (dk_at dksX1_guess_4 0 rfl rfl)
theorem dX1_guess_95 : decode cX1_guess 95 = .ok (.ireturn, 1) := dk_172 (dk_at dksX1_guess_4 3 rfl rfl)
abbrev cX1_isStart : ByteArray := prog_1_method_30_code
def yX1_isStart : MethodName := ⟨RX1, "isStart", "(III)Z"⟩
def dkwX1_isStart_1 : List UInt8 := [153, 0, 7, 4, 167, 0, 4, 3, 172]
abbrev dktX1_isStart_1 : List UInt8 := dkwX1_isStart_1 ++ []
def dkwX1_isStart_0 : List UInt8 := [27, 3, 6, 184, 0, 112, 153, 0, 25, 28, 3, 7, 184, 0, 112, 153, 0, 16, 29, 3, 7, 184, 0, 112]
abbrev dktX1_isStart_0 : List UInt8 := dkwX1_isStart_0 ++ dktX1_isStart_1
theorem dksX1_isStart_0 : cX1_isStart.data.toList.drop 0 = dktX1_isStart_0 := by decide +kernel
theorem dksX1_isStart_1 : cX1_isStart.data.toList.drop 24 = dktX1_isStart_1 := dk_seg dksX1_isStart_0 24 rfl rfl
theorem dX1_isStart_0 : decode cX1_isStart 0 = .ok (.iload_n 1, 1) := dk_27 (dk_at dksX1_isStart_0 0 rfl rfl)
theorem dX1_isStart_1 : decode cX1_isStart 1 = .ok (.iconst 0, 1) := dk_3 (dk_at dksX1_isStart_0 1 rfl rfl)
theorem dX1_isStart_2 : decode cX1_isStart 2 = .ok (.iconst 3, 1) := dk_6 (dk_at dksX1_isStart_0 2 rfl rfl)
theorem dX1_isStart_3 : decode cX1_isStart 3 = .ok (.invokestatic 112, 3) := dk_184 0 112 (dk_at dksX1_isStart_0 3 rfl rfl)
theorem dX1_isStart_6 : decode cX1_isStart 6 = .ok (.ifCond .eq 25, 3) := dk_153 0 25 (dk_at dksX1_isStart_0 6 rfl rfl)
theorem dX1_isStart_9 : decode cX1_isStart 9 = .ok (.iload_n 2, 1) := dk_28 (dk_at dksX1_isStart_0 9 rfl rfl)
theorem dX1_isStart_10 : decode cX1_isStart 10 = .ok (.iconst 0, 1) := dk_3 (dk_at dksX1_isStart_0 10 rfl rfl)
theorem dX1_isStart_11 : decode cX1_isStart 11 = .ok (.iconst 4, 1) := dk_7 (dk_at dksX1_isStart_0 11 rfl rfl)
theorem dX1_isStart_12 : decode cX1_isStart 12 = .ok (.invokestatic 112, 3) := dk_184 0 112 (dk_at dksX1_isStart_0 12 rfl rfl)
theorem dX1_isStart_15 : decode cX1_isStart 15 = .ok (.ifCond .eq 16, 3) := dk_153 0 16 (dk_at dksX1_isStart_0 15 rfl rfl)
theorem dX1_isStart_18 : decode cX1_isStart 18 = .ok (.iload_n 3, 1) := dk_29 (dk_at dksX1_isStart_0 18 rfl rfl)
theorem dX1_isStart_19 : decode cX1_isStart 19 = .ok (.iconst 0, 1) := dk_3 (dk_at dksX1_isStart_0 19 rfl rfl)
theorem dX1_isStart_20 : decode cX1_isStart 20 = .ok (.iconst 4, 1) := dk_7 (dk_at dksX1_isStart_0 20 rfl rfl)
theorem dX1_isStart_21 : decode cX1_isStart 21 = .ok (.invokestatic 112, 3) := dk_184 0 112 (dk_at dksX1_isStart_0 21 rfl rfl)
theorem dX1_isStart_24 : decode cX1_isStart 24 = .ok (.ifCond .eq 7, 3) := dk_153 0 7 (dk_at dksX1_isStart_1 0 rfl rfl)
theorem dX1_isStart_27 : decode cX1_isStart 27 = .ok (.iconst 1, 1) := dk_4 (dk_at dksX1_isStart_1 3 rfl rfl)
theorem dX1_isStart_28 : decode cX1_isStart 28 = .ok (.goto 4, 3) := dk_167 0 4 (dk_at dksX1_isStart_1 4 rfl rfl)
theorem dX1_isStart_31 : decode cX1_isStart 31 = .ok (.iconst 0, 1) := dk_3 (dk_at dksX1_isStart_1 7 rfl rfl)
theorem dX1_isStart_32 : decode cX1_isStart 32 = .ok (.ireturn, 1) := dk_172 (dk_at dksX1_isStart_1 8 rfl rfl)
abbrev cX1_swapped : ByteArray := prog_1_method_32_code
def yX1_swapped : MethodName := ⟨RX1, "swapped", "()I"⟩
def dkwX1_swapped_3 : List UInt8 := [132, 2, 1, 167, 255, 231, 132, 1, 1, 167, 255, 215, 16, 254, 172]
abbrev dktX1_swapped_3 : List UInt8 := dkwX1_swapped_3 ++ []
def dkwX1_swapped_2 : List UInt8 := [28, 16, 12, 162, 0, 25, 42, 27, 28, 182, 1, 7, 158, 0, 10, 16, 100, 27, 104, 28, 96, 172]
abbrev dktX1_swapped_2 : List UInt8 := dkwX1_swapped_2 ++ dktX1_swapped_3
def dkwX1_swapped_1 : List UInt8 := [182, 1, 7, 158, 0, 9, 42, 8, 182, 0, 116, 172, 3, 60, 27, 16, 12, 162, 0, 41, 27, 4, 96, 61]
abbrev dktX1_swapped_1 : List UInt8 := dkwX1_swapped_1 ++ dktX1_swapped_2
def dkwX1_swapped_0 : List UInt8 := [42, 182, 0, 102, 42, 180, 0, 127, 199, 0, 9, 42, 4, 182, 0, 116, 172, 42, 182, 1, 4, 42, 2, 2]
abbrev dktX1_swapped_0 : List UInt8 := dkwX1_swapped_0 ++ dktX1_swapped_1
theorem dksX1_swapped_0 : cX1_swapped.data.toList.drop 0 = dktX1_swapped_0 := by decide +kernel
theorem dksX1_swapped_1 : cX1_swapped.data.toList.drop 24 = dktX1_swapped_1 := dk_seg dksX1_swapped_0 24 rfl rfl
theorem dksX1_swapped_2 : cX1_swapped.data.toList.drop 48 = dktX1_swapped_2 := dk_seg dksX1_swapped_1 24 rfl rfl
theorem dksX1_swapped_3 : cX1_swapped.data.toList.drop 70 = dktX1_swapped_3 := dk_seg dksX1_swapped_2 22 rfl rfl
theorem dX1_swapped_0 : decode cX1_swapped 0 = .ok (.aload_n 0, 1) := dk_42 (dk_at dksX1_swapped_0 0 rfl rfl)
theorem dX1_swapped_1 : decode cX1_swapped 1 = .ok (.invokevirtual 102, 3) := dk_182 0 102 (dk_at dksX1_swapped_0 1 rfl rfl)
theorem dX1_swapped_4 : decode cX1_swapped 4 = .ok (.aload_n 0, 1) := dk_42 (dk_at dksX1_swapped_0 4 rfl rfl)
theorem dX1_swapped_5 : decode cX1_swapped 5 = .ok (.getfield 127, 3) := dk_180 0 127 (dk_at dksX1_swapped_0 5 rfl rfl)
theorem dX1_swapped_8 : decode cX1_swapped 8 = .ok (.ifnonnull 9, 3) := dk_199 0 9 (dk_at dksX1_swapped_0 8 rfl rfl)
theorem dX1_swapped_11 : decode cX1_swapped 11 = .ok (.aload_n 0, 1) := dk_42 (dk_at dksX1_swapped_0 11 rfl rfl)
theorem dX1_swapped_12 : decode cX1_swapped 12 = .ok (.iconst 1, 1) := dk_4 (dk_at dksX1_swapped_0 12 rfl rfl)
theorem dX1_swapped_13 : decode cX1_swapped 13 = .ok (.invokevirtual 116, 3) := dk_182 0 116 (dk_at dksX1_swapped_0 13 rfl rfl)
theorem dX1_swapped_16 : decode cX1_swapped 16 = .ok (.ireturn, 1) := dk_172 (dk_at dksX1_swapped_0 16 rfl rfl)
theorem dX1_swapped_17 : decode cX1_swapped 17 = .ok (.aload_n 0, 1) := dk_42 (dk_at dksX1_swapped_0 17 rfl rfl)
theorem dX1_swapped_18 : decode cX1_swapped 18 = .ok (.invokevirtual 260, 3) := dk_182 1 4 (dk_at dksX1_swapped_0 18 rfl rfl)
theorem dX1_swapped_21 : decode cX1_swapped 21 = .ok (.aload_n 0, 1) := dk_42 (dk_at dksX1_swapped_0 21 rfl rfl)
theorem dX1_swapped_22 : decode cX1_swapped 22 = .ok (.iconst (-1), 1) := dk_2 (dk_at dksX1_swapped_0 22 rfl rfl)
theorem dX1_swapped_23 : decode cX1_swapped 23 = .ok (.iconst (-1), 1) := dk_2 (dk_at dksX1_swapped_0 23 rfl rfl)
theorem dX1_swapped_24 : decode cX1_swapped 24 = .ok (.invokevirtual 263, 3) := dk_182 1 7 (dk_at dksX1_swapped_1 0 rfl rfl)
theorem dX1_swapped_27 : decode cX1_swapped 27 = .ok (.ifCond .le 9, 3) := dk_158 0 9 (dk_at dksX1_swapped_1 3 rfl rfl)
theorem dX1_swapped_30 : decode cX1_swapped 30 = .ok (.aload_n 0, 1) := dk_42 (dk_at dksX1_swapped_1 6 rfl rfl)
theorem dX1_swapped_31 : decode cX1_swapped 31 = .ok (.iconst 5, 1) := dk_8 (dk_at dksX1_swapped_1 7 rfl rfl)
theorem dX1_swapped_32 : decode cX1_swapped 32 = .ok (.invokevirtual 116, 3) := dk_182 0 116 (dk_at dksX1_swapped_1 8 rfl rfl)
theorem dX1_swapped_35 : decode cX1_swapped 35 = .ok (.ireturn, 1) := dk_172 (dk_at dksX1_swapped_1 11 rfl rfl)
theorem dX1_swapped_36 : decode cX1_swapped 36 = .ok (.iconst 0, 1) := dk_3 (dk_at dksX1_swapped_1 12 rfl rfl)
theorem dX1_swapped_37 : decode cX1_swapped 37 = .ok (.istore_n 1, 1) := dk_60 (dk_at dksX1_swapped_1 13 rfl rfl)
theorem dX1_swapped_38 : decode cX1_swapped 38 = .ok (.iload_n 1, 1) := dk_27 (dk_at dksX1_swapped_1 14 rfl rfl)
theorem dX1_swapped_39 : decode cX1_swapped 39 = .ok (.bipush 12, 2) := dk_16 12 (dk_at dksX1_swapped_1 15 rfl rfl)
theorem dX1_swapped_41 : decode cX1_swapped 41 = .ok (.if_icmp .ge 41, 3) := dk_162 0 41 (dk_at dksX1_swapped_1 17 rfl rfl)
theorem dX1_swapped_44 : decode cX1_swapped 44 = .ok (.iload_n 1, 1) := dk_27 (dk_at dksX1_swapped_1 20 rfl rfl)
theorem dX1_swapped_45 : decode cX1_swapped 45 = .ok (.iconst 1, 1) := dk_4 (dk_at dksX1_swapped_1 21 rfl rfl)
theorem dX1_swapped_46 : decode cX1_swapped 46 = .ok (.iadd, 1) := dk_96 (dk_at dksX1_swapped_1 22 rfl rfl)
theorem dX1_swapped_47 : decode cX1_swapped 47 = .ok (.istore_n 2, 1) := dk_61 (dk_at dksX1_swapped_1 23 rfl rfl)
theorem dX1_swapped_48 : decode cX1_swapped 48 = .ok (.iload_n 2, 1) := dk_28 (dk_at dksX1_swapped_2 0 rfl rfl)
theorem dX1_swapped_49 : decode cX1_swapped 49 = .ok (.bipush 12, 2) := dk_16 12 (dk_at dksX1_swapped_2 1 rfl rfl)
theorem dX1_swapped_51 : decode cX1_swapped 51 = .ok (.if_icmp .ge 25, 3) := dk_162 0 25 (dk_at dksX1_swapped_2 3 rfl rfl)
theorem dX1_swapped_54 : decode cX1_swapped 54 = .ok (.aload_n 0, 1) := dk_42 (dk_at dksX1_swapped_2 6 rfl rfl)
theorem dX1_swapped_55 : decode cX1_swapped 55 = .ok (.iload_n 1, 1) := dk_27 (dk_at dksX1_swapped_2 7 rfl rfl)
theorem dX1_swapped_56 : decode cX1_swapped 56 = .ok (.iload_n 2, 1) := dk_28 (dk_at dksX1_swapped_2 8 rfl rfl)
theorem dX1_swapped_57 : decode cX1_swapped 57 = .ok (.invokevirtual 263, 3) := dk_182 1 7 (dk_at dksX1_swapped_2 9 rfl rfl)
theorem dX1_swapped_60 : decode cX1_swapped 60 = .ok (.ifCond .le 10, 3) := dk_158 0 10 (dk_at dksX1_swapped_2 12 rfl rfl)
theorem dX1_swapped_63 : decode cX1_swapped 63 = .ok (.bipush 100, 2) := dk_16 100 (dk_at dksX1_swapped_2 15 rfl rfl)
theorem dX1_swapped_65 : decode cX1_swapped 65 = .ok (.iload_n 1, 1) := dk_27 (dk_at dksX1_swapped_2 17 rfl rfl)
theorem dX1_swapped_66 : decode cX1_swapped 66 = .ok (.imul, 1) := dk_104 (dk_at dksX1_swapped_2 18 rfl rfl)
theorem dX1_swapped_67 : decode cX1_swapped 67 = .ok (.iload_n 2, 1) := dk_28 (dk_at dksX1_swapped_2 19 rfl rfl)
theorem dX1_swapped_68 : decode cX1_swapped 68 = .ok (.iadd, 1) := dk_96 (dk_at dksX1_swapped_2 20 rfl rfl)
theorem dX1_swapped_69 : decode cX1_swapped 69 = .ok (.ireturn, 1) := dk_172 (dk_at dksX1_swapped_2 21 rfl rfl)
theorem dX1_swapped_70 : decode cX1_swapped 70 = .ok (.iinc 2 1, 3) := dk_132 2 1 (dk_at dksX1_swapped_3 0 rfl rfl)
theorem dX1_swapped_73 : decode cX1_swapped 73 = .ok (.goto (-25), 3) := dk_167 255 231 (dk_at dksX1_swapped_3 3 rfl rfl)
theorem dX1_swapped_76 : decode cX1_swapped 76 = .ok (.iinc 1 1, 3) := dk_132 1 1 (dk_at dksX1_swapped_3 6 rfl rfl)
theorem dX1_swapped_79 : decode cX1_swapped 79 = .ok (.goto (-41), 3) := dk_167 255 215 (dk_at dksX1_swapped_3 9 rfl rfl)
theorem dX1_swapped_82 : decode cX1_swapped 82 = .ok (.bipush (-2), 2) := dk_16 254 (dk_at dksX1_swapped_3 12 rfl rfl)
theorem dX1_swapped_84 : decode cX1_swapped 84 = .ok (.ireturn, 1) := dk_172 (dk_at dksX1_swapped_3 14 rfl rfl)
abbrev cX1_plan : ByteArray := prog_1_method_35_code
def yX1_plan : MethodName := ⟨RX1, "plan", "(I)I"⟩
def dkwX1_plan_3 : List UInt8 := [181, 0, 152, 42, 180, 0, 76, 3, 42, 180, 0, 79, 3, 27, 184, 1, 22, 42, 180, 1, 17, 136, 172]
abbrev dktX1_plan_3 : List UInt8 := dkwX1_plan_3 ++ []
def dkwX1_plan_2 : List UInt8 := [182, 1, 32, 42, 180, 1, 17, 20, 1, 20, 148, 154, 0, 10, 42, 16, 6, 182, 0, 116, 172, 42, 27]
abbrev dktX1_plan_2 : List UInt8 := dkwX1_plan_2 ++ dktX1_plan_3
def dkwX1_plan_1 : List UInt8 := [154, 0, 9, 42, 5, 182, 0, 116, 172, 42, 20, 1, 20, 181, 1, 17, 42, 42, 180, 0, 29, 3, 27]
abbrev dktX1_plan_1 : List UInt8 := dkwX1_plan_1 ++ dktX1_plan_2
def dkwX1_plan_0 : List UInt8 := [42, 182, 0, 102, 42, 180, 0, 127, 199, 0, 9, 42, 4, 182, 0, 116, 172, 27, 4, 8, 184, 0, 112]
abbrev dktX1_plan_0 : List UInt8 := dkwX1_plan_0 ++ dktX1_plan_1
theorem dksX1_plan_0 : cX1_plan.data.toList.drop 0 = dktX1_plan_0 := by decide +kernel
theorem dksX1_plan_1 : cX1_plan.data.toList.drop 23 = dktX1_plan_1 := dk_seg dksX1_plan_0 23 rfl rfl
theorem dksX1_plan_2 : cX1_plan.data.toList.drop 46 = dktX1_plan_2 := dk_seg dksX1_plan_1 23 rfl rfl
theorem dksX1_plan_3 : cX1_plan.data.toList.drop 69 = dktX1_plan_3 := dk_seg dksX1_plan_2 23 rfl rfl
theorem dX1_plan_0 : decode cX1_plan 0 = .ok (.aload_n 0, 1) := dk_42 (dk_at dksX1_plan_0 0 rfl rfl)
theorem dX1_plan_1 : decode cX1_plan 1 = .ok (.invokevirtual 102, 3) := dk_182 0 102 (dk_at dksX1_plan_0 1 rfl rfl)
theorem dX1_plan_4 : decode cX1_plan 4 = .ok (.aload_n 0, 1) := dk_42 (dk_at dksX1_plan_0 4 rfl rfl)
theorem dX1_plan_5 : decode cX1_plan 5 = .ok (.getfield 127, 3) := dk_180 0 127 (dk_at dksX1_plan_0 5 rfl rfl)
theorem dX1_plan_8 : decode cX1_plan 8 = .ok (.ifnonnull 9, 3) := dk_199 0 9 (dk_at dksX1_plan_0 8 rfl rfl)
theorem dX1_plan_11 : decode cX1_plan 11 = .ok (.aload_n 0, 1) := dk_42 (dk_at dksX1_plan_0 11 rfl rfl)
theorem dX1_plan_12 : decode cX1_plan 12 = .ok (.iconst 1, 1) := dk_4 (dk_at dksX1_plan_0 12 rfl rfl)
theorem dX1_plan_13 : decode cX1_plan 13 = .ok (.invokevirtual 116, 3) := dk_182 0 116 (dk_at dksX1_plan_0 13 rfl rfl)
theorem dX1_plan_16 : decode cX1_plan 16 = .ok (.ireturn, 1) := dk_172 (dk_at dksX1_plan_0 16 rfl rfl)
theorem dX1_plan_17 : decode cX1_plan 17 = .ok (.iload_n 1, 1) := dk_27 (dk_at dksX1_plan_0 17 rfl rfl)
theorem dX1_plan_18 : decode cX1_plan 18 = .ok (.iconst 1, 1) := dk_4 (dk_at dksX1_plan_0 18 rfl rfl)
theorem dX1_plan_19 : decode cX1_plan 19 = .ok (.iconst 5, 1) := dk_8 (dk_at dksX1_plan_0 19 rfl rfl)
theorem dX1_plan_20 : decode cX1_plan 20 = .ok (.invokestatic 112, 3) := dk_184 0 112 (dk_at dksX1_plan_0 20 rfl rfl)
theorem dX1_plan_23 : decode cX1_plan 23 = .ok (.ifCond .ne 9, 3) := dk_154 0 9 (dk_at dksX1_plan_1 0 rfl rfl)
theorem dX1_plan_26 : decode cX1_plan 26 = .ok (.aload_n 0, 1) := dk_42 (dk_at dksX1_plan_1 3 rfl rfl)
theorem dX1_plan_27 : decode cX1_plan 27 = .ok (.iconst 2, 1) := dk_5 (dk_at dksX1_plan_1 4 rfl rfl)
theorem dX1_plan_28 : decode cX1_plan 28 = .ok (.invokevirtual 116, 3) := dk_182 0 116 (dk_at dksX1_plan_1 5 rfl rfl)
theorem dX1_plan_31 : decode cX1_plan 31 = .ok (.ireturn, 1) := dk_172 (dk_at dksX1_plan_1 8 rfl rfl)
theorem dX1_plan_32 : decode cX1_plan 32 = .ok (.aload_n 0, 1) := dk_42 (dk_at dksX1_plan_1 9 rfl rfl)
theorem dX1_plan_33 : decode cX1_plan 33 = .ok (.ldc2_w 276, 3) := dk_20 1 20 (dk_at dksX1_plan_1 10 rfl rfl)
theorem dX1_plan_36 : decode cX1_plan 36 = .ok (.putfield 273, 3) := dk_181 1 17 (dk_at dksX1_plan_1 13 rfl rfl)
theorem dX1_plan_39 : decode cX1_plan 39 = .ok (.aload_n 0, 1) := dk_42 (dk_at dksX1_plan_1 16 rfl rfl)
theorem dX1_plan_40 : decode cX1_plan 40 = .ok (.aload_n 0, 1) := dk_42 (dk_at dksX1_plan_1 17 rfl rfl)
theorem dX1_plan_41 : decode cX1_plan 41 = .ok (.getfield 29, 3) := dk_180 0 29 (dk_at dksX1_plan_1 18 rfl rfl)
theorem dX1_plan_44 : decode cX1_plan 44 = .ok (.iconst 0, 1) := dk_3 (dk_at dksX1_plan_1 21 rfl rfl)
theorem dX1_plan_45 : decode cX1_plan 45 = .ok (.iload_n 1, 1) := dk_27 (dk_at dksX1_plan_1 22 rfl rfl)
theorem dX1_plan_46 : decode cX1_plan 46 = .ok (.invokevirtual 288, 3) := dk_182 1 32 (dk_at dksX1_plan_2 0 rfl rfl)
theorem dX1_plan_49 : decode cX1_plan 49 = .ok (.aload_n 0, 1) := dk_42 (dk_at dksX1_plan_2 3 rfl rfl)
theorem dX1_plan_50 : decode cX1_plan 50 = .ok (.getfield 273, 3) := dk_180 1 17 (dk_at dksX1_plan_2 4 rfl rfl)
theorem dX1_plan_53 : decode cX1_plan 53 = .ok (.ldc2_w 276, 3) := dk_20 1 20 (dk_at dksX1_plan_2 7 rfl rfl)
theorem dX1_plan_56 : decode cX1_plan 56 = .ok (.lcmp, 1) := dk_148 (dk_at dksX1_plan_2 10 rfl rfl)
theorem dX1_plan_57 : decode cX1_plan 57 = .ok (.ifCond .ne 10, 3) := dk_154 0 10 (dk_at dksX1_plan_2 11 rfl rfl)
theorem dX1_plan_60 : decode cX1_plan 60 = .ok (.aload_n 0, 1) := dk_42 (dk_at dksX1_plan_2 14 rfl rfl)
theorem dX1_plan_61 : decode cX1_plan 61 = .ok (.bipush 6, 2) := dk_16 6 (dk_at dksX1_plan_2 15 rfl rfl)
theorem dX1_plan_63 : decode cX1_plan 63 = .ok (.invokevirtual 116, 3) := dk_182 0 116 (dk_at dksX1_plan_2 17 rfl rfl)
theorem dX1_plan_66 : decode cX1_plan 66 = .ok (.ireturn, 1) := dk_172 (dk_at dksX1_plan_2 20 rfl rfl)
theorem dX1_plan_67 : decode cX1_plan 67 = .ok (.aload_n 0, 1) := dk_42 (dk_at dksX1_plan_2 21 rfl rfl)
theorem dX1_plan_68 : decode cX1_plan 68 = .ok (.iload_n 1, 1) := dk_27 (dk_at dksX1_plan_2 22 rfl rfl)
theorem dX1_plan_69 : decode cX1_plan 69 = .ok (.putfield 152, 3) := dk_181 0 152 (dk_at dksX1_plan_3 0 rfl rfl)
theorem dX1_plan_72 : decode cX1_plan 72 = .ok (.aload_n 0, 1) := dk_42 (dk_at dksX1_plan_3 3 rfl rfl)
theorem dX1_plan_73 : decode cX1_plan 73 = .ok (.getfield 76, 3) := dk_180 0 76 (dk_at dksX1_plan_3 4 rfl rfl)
theorem dX1_plan_76 : decode cX1_plan 76 = .ok (.iconst 0, 1) := dk_3 (dk_at dksX1_plan_3 7 rfl rfl)
theorem dX1_plan_77 : decode cX1_plan 77 = .ok (.aload_n 0, 1) := dk_42 (dk_at dksX1_plan_3 8 rfl rfl)
theorem dX1_plan_78 : decode cX1_plan 78 = .ok (.getfield 79, 3) := dk_180 0 79 (dk_at dksX1_plan_3 9 rfl rfl)
theorem dX1_plan_81 : decode cX1_plan 81 = .ok (.iconst 0, 1) := dk_3 (dk_at dksX1_plan_3 12 rfl rfl)
theorem dX1_plan_82 : decode cX1_plan 82 = .ok (.iload_n 1, 1) := dk_27 (dk_at dksX1_plan_3 13 rfl rfl)
theorem dX1_plan_83 : decode cX1_plan 83 = .ok (.invokestatic 278, 3) := dk_184 1 22 (dk_at dksX1_plan_3 14 rfl rfl)
theorem dX1_plan_86 : decode cX1_plan 86 = .ok (.aload_n 0, 1) := dk_42 (dk_at dksX1_plan_3 17 rfl rfl)
theorem dX1_plan_87 : decode cX1_plan 87 = .ok (.getfield 273, 3) := dk_180 1 17 (dk_at dksX1_plan_3 18 rfl rfl)
theorem dX1_plan_90 : decode cX1_plan 90 = .ok (.l2i, 1) := dk_136 (dk_at dksX1_plan_3 21 rfl rfl)
theorem dX1_plan_91 : decode cX1_plan 91 = .ok (.ireturn, 1) := dk_172 (dk_at dksX1_plan_3 22 rfl rfl)
abbrev cX1_plans : ByteArray := prog_1_method_33_code
def yX1_plans : MethodName := ⟨RX1, "plans", "(LRoarMill$State;II)V"⟩
def dkwX1_plans_4 : List UInt8 := [180, 0, 73, 28, 21, 4, 79, 42, 25, 5, 28, 4, 96, 29, 182, 1, 32, 132, 4, 1, 167, 255, 206, 177]
abbrev dktX1_plans_4 : List UInt8 := dkwX1_plans_4 ++ []
def dkwX1_plans_3 : List UInt8 := [42, 180, 0, 69, 28, 50, 58, 5, 42, 25, 5, 43, 21, 4, 182, 1, 28, 154, 0, 6, 167, 0, 21, 42]
abbrev dktX1_plans_3 : List UInt8 := dkwX1_plans_3 ++ dktX1_plans_4
def dkwX1_plans_2 : List UInt8 := [42, 180, 0, 73, 3, 42, 180, 0, 76, 3, 29, 184, 1, 22, 177, 3, 54, 4, 21, 4, 7, 162, 0, 50]
abbrev dktX1_plans_2 : List UInt8 := dkwX1_plans_2 ++ dktX1_plans_3
def dkwX1_plans_1 : List UInt8 := [20, 1, 20, 148, 153, 0, 14, 22, 4, 42, 180, 1, 17, 148, 155, 0, 4, 177, 42, 22, 4, 181, 1, 17]
abbrev dktX1_plans_1 : List UInt8 := dkwX1_plans_1 ++ dktX1_plans_2
def dkwX1_plans_0 : List UInt8 := [28, 29, 160, 0, 60, 43, 180, 0, 237, 42, 180, 0, 29, 180, 0, 237, 101, 55, 4, 42, 180, 1, 17]
abbrev dktX1_plans_0 : List UInt8 := dkwX1_plans_0 ++ dktX1_plans_1
theorem dksX1_plans_0 : cX1_plans.data.toList.drop 0 = dktX1_plans_0 := by decide +kernel
theorem dksX1_plans_1 : cX1_plans.data.toList.drop 23 = dktX1_plans_1 := dk_seg dksX1_plans_0 23 rfl rfl
theorem dksX1_plans_2 : cX1_plans.data.toList.drop 47 = dktX1_plans_2 := dk_seg dksX1_plans_1 24 rfl rfl
theorem dksX1_plans_3 : cX1_plans.data.toList.drop 71 = dktX1_plans_3 := dk_seg dksX1_plans_2 24 rfl rfl
theorem dksX1_plans_4 : cX1_plans.data.toList.drop 95 = dktX1_plans_4 := dk_seg dksX1_plans_3 24 rfl rfl
theorem dX1_plans_0 : decode cX1_plans 0 = .ok (.iload_n 2, 1) := dk_28 (dk_at dksX1_plans_0 0 rfl rfl)
theorem dX1_plans_1 : decode cX1_plans 1 = .ok (.iload_n 3, 1) := dk_29 (dk_at dksX1_plans_0 1 rfl rfl)
theorem dX1_plans_2 : decode cX1_plans 2 = .ok (.if_icmp .ne 60, 3) := dk_160 0 60 (dk_at dksX1_plans_0 2 rfl rfl)
theorem dX1_plans_5 : decode cX1_plans 5 = .ok (.aload_n 1, 1) := dk_43 (dk_at dksX1_plans_0 5 rfl rfl)
theorem dX1_plans_6 : decode cX1_plans 6 = .ok (.getfield 237, 3) := dk_180 0 237 (dk_at dksX1_plans_0 6 rfl rfl)
theorem dX1_plans_9 : decode cX1_plans 9 = .ok (.aload_n 0, 1) := dk_42 (dk_at dksX1_plans_0 9 rfl rfl)
theorem dX1_plans_10 : decode cX1_plans 10 = .ok (.getfield 29, 3) := dk_180 0 29 (dk_at dksX1_plans_0 10 rfl rfl)
theorem dX1_plans_13 : decode cX1_plans 13 = .ok (.getfield 237, 3) := dk_180 0 237 (dk_at dksX1_plans_0 13 rfl rfl)
theorem dX1_plans_16 : decode cX1_plans 16 = .ok (.lsub, 1) := dk_101 (dk_at dksX1_plans_0 16 rfl rfl)
theorem dX1_plans_17 : decode cX1_plans 17 = .ok (.lstore 4, 2) := dk_55 4 (dk_at dksX1_plans_0 17 rfl rfl)
theorem dX1_plans_19 : decode cX1_plans 19 = .ok (.aload_n 0, 1) := dk_42 (dk_at dksX1_plans_0 19 rfl rfl)
theorem dX1_plans_20 : decode cX1_plans 20 = .ok (.getfield 273, 3) := dk_180 1 17 (dk_at dksX1_plans_0 20 rfl rfl)
theorem dX1_plans_23 : decode cX1_plans 23 = .ok (.ldc2_w 276, 3) := dk_20 1 20 (dk_at dksX1_plans_1 0 rfl rfl)
theorem dX1_plans_26 : decode cX1_plans 26 = .ok (.lcmp, 1) := dk_148 (dk_at dksX1_plans_1 3 rfl rfl)
theorem dX1_plans_27 : decode cX1_plans 27 = .ok (.ifCond .eq 14, 3) := dk_153 0 14 (dk_at dksX1_plans_1 4 rfl rfl)
theorem dX1_plans_30 : decode cX1_plans 30 = .ok (.lload 4, 2) := dk_22 4 (dk_at dksX1_plans_1 7 rfl rfl)
theorem dX1_plans_32 : decode cX1_plans 32 = .ok (.aload_n 0, 1) := dk_42 (dk_at dksX1_plans_1 9 rfl rfl)
theorem dX1_plans_33 : decode cX1_plans 33 = .ok (.getfield 273, 3) := dk_180 1 17 (dk_at dksX1_plans_1 10 rfl rfl)
theorem dX1_plans_36 : decode cX1_plans 36 = .ok (.lcmp, 1) := dk_148 (dk_at dksX1_plans_1 13 rfl rfl)
theorem dX1_plans_37 : decode cX1_plans 37 = .ok (.ifCond .lt 4, 3) := dk_155 0 4 (dk_at dksX1_plans_1 14 rfl rfl)
theorem dX1_plans_40 : decode cX1_plans 40 = .ok (.return_, 1) := dk_177 (dk_at dksX1_plans_1 17 rfl rfl)
theorem dX1_plans_41 : decode cX1_plans 41 = .ok (.aload_n 0, 1) := dk_42 (dk_at dksX1_plans_1 18 rfl rfl)
theorem dX1_plans_42 : decode cX1_plans 42 = .ok (.lload 4, 2) := dk_22 4 (dk_at dksX1_plans_1 19 rfl rfl)
theorem dX1_plans_44 : decode cX1_plans 44 = .ok (.putfield 273, 3) := dk_181 1 17 (dk_at dksX1_plans_1 21 rfl rfl)
theorem dX1_plans_47 : decode cX1_plans 47 = .ok (.aload_n 0, 1) := dk_42 (dk_at dksX1_plans_2 0 rfl rfl)
theorem dX1_plans_48 : decode cX1_plans 48 = .ok (.getfield 73, 3) := dk_180 0 73 (dk_at dksX1_plans_2 1 rfl rfl)
theorem dX1_plans_51 : decode cX1_plans 51 = .ok (.iconst 0, 1) := dk_3 (dk_at dksX1_plans_2 4 rfl rfl)
theorem dX1_plans_52 : decode cX1_plans 52 = .ok (.aload_n 0, 1) := dk_42 (dk_at dksX1_plans_2 5 rfl rfl)
theorem dX1_plans_53 : decode cX1_plans 53 = .ok (.getfield 76, 3) := dk_180 0 76 (dk_at dksX1_plans_2 6 rfl rfl)
theorem dX1_plans_56 : decode cX1_plans 56 = .ok (.iconst 0, 1) := dk_3 (dk_at dksX1_plans_2 9 rfl rfl)
theorem dX1_plans_57 : decode cX1_plans 57 = .ok (.iload_n 3, 1) := dk_29 (dk_at dksX1_plans_2 10 rfl rfl)
theorem dX1_plans_58 : decode cX1_plans 58 = .ok (.invokestatic 278, 3) := dk_184 1 22 (dk_at dksX1_plans_2 11 rfl rfl)
theorem dX1_plans_61 : decode cX1_plans 61 = .ok (.return_, 1) := dk_177 (dk_at dksX1_plans_2 14 rfl rfl)
theorem dX1_plans_62 : decode cX1_plans 62 = .ok (.iconst 0, 1) := dk_3 (dk_at dksX1_plans_2 15 rfl rfl)
theorem dX1_plans_63 : decode cX1_plans 63 = .ok (.istore 4, 2) := dk_54 4 (dk_at dksX1_plans_2 16 rfl rfl)
theorem dX1_plans_65 : decode cX1_plans 65 = .ok (.iload 4, 2) := dk_21 4 (dk_at dksX1_plans_2 18 rfl rfl)
theorem dX1_plans_67 : decode cX1_plans 67 = .ok (.iconst 4, 1) := dk_7 (dk_at dksX1_plans_2 20 rfl rfl)
theorem dX1_plans_68 : decode cX1_plans 68 = .ok (.if_icmp .ge 50, 3) := dk_162 0 50 (dk_at dksX1_plans_2 21 rfl rfl)
theorem dX1_plans_71 : decode cX1_plans 71 = .ok (.aload_n 0, 1) := dk_42 (dk_at dksX1_plans_3 0 rfl rfl)
theorem dX1_plans_72 : decode cX1_plans 72 = .ok (.getfield 69, 3) := dk_180 0 69 (dk_at dksX1_plans_3 1 rfl rfl)
theorem dX1_plans_75 : decode cX1_plans 75 = .ok (.iload_n 2, 1) := dk_28 (dk_at dksX1_plans_3 4 rfl rfl)
theorem dX1_plans_76 : decode cX1_plans 76 = .ok (.aaload, 1) := dk_50 (dk_at dksX1_plans_3 5 rfl rfl)
theorem dX1_plans_77 : decode cX1_plans 77 = .ok (.astore 5, 2) := dk_58 5 (dk_at dksX1_plans_3 6 rfl rfl)
theorem dX1_plans_79 : decode cX1_plans 79 = .ok (.aload_n 0, 1) := dk_42 (dk_at dksX1_plans_3 8 rfl rfl)
theorem dX1_plans_80 : decode cX1_plans 80 = .ok (.aload 5, 2) := dk_25 5 (dk_at dksX1_plans_3 9 rfl rfl)
theorem dX1_plans_82 : decode cX1_plans 82 = .ok (.aload_n 1, 1) := dk_43 (dk_at dksX1_plans_3 11 rfl rfl)
theorem dX1_plans_83 : decode cX1_plans 83 = .ok (.iload 4, 2) := dk_21 4 (dk_at dksX1_plans_3 12 rfl rfl)
theorem dX1_plans_85 : decode cX1_plans 85 = .ok (.invokevirtual 284, 3) := dk_182 1 28 (dk_at dksX1_plans_3 14 rfl rfl)
theorem dX1_plans_88 : decode cX1_plans 88 = .ok (.ifCond .ne 6, 3) := dk_154 0 6 (dk_at dksX1_plans_3 17 rfl rfl)
theorem dX1_plans_91 : decode cX1_plans 91 = .ok (.goto 21, 3) := dk_167 0 21 (dk_at dksX1_plans_3 20 rfl rfl)
theorem dX1_plans_94 : decode cX1_plans 94 = .ok (.aload_n 0, 1) := dk_42 (dk_at dksX1_plans_3 23 rfl rfl)
theorem dX1_plans_95 : decode cX1_plans 95 = .ok (.getfield 73, 3) := dk_180 0 73 (dk_at dksX1_plans_4 0 rfl rfl)
theorem dX1_plans_98 : decode cX1_plans 98 = .ok (.iload_n 2, 1) := dk_28 (dk_at dksX1_plans_4 3 rfl rfl)
theorem dX1_plans_99 : decode cX1_plans 99 = .ok (.iload 4, 2) := dk_21 4 (dk_at dksX1_plans_4 4 rfl rfl)
theorem dX1_plans_101 : decode cX1_plans 101 = .ok (.iastore, 1) := dk_79 (dk_at dksX1_plans_4 6 rfl rfl)
theorem dX1_plans_102 : decode cX1_plans 102 = .ok (.aload_n 0, 1) := dk_42 (dk_at dksX1_plans_4 7 rfl rfl)
theorem dX1_plans_103 : decode cX1_plans 103 = .ok (.aload 5, 2) := dk_25 5 (dk_at dksX1_plans_4 8 rfl rfl)
theorem dX1_plans_105 : decode cX1_plans 105 = .ok (.iload_n 2, 1) := dk_28 (dk_at dksX1_plans_4 10 rfl rfl)
theorem dX1_plans_106 : decode cX1_plans 106 = .ok (.iconst 1, 1) := dk_4 (dk_at dksX1_plans_4 11 rfl rfl)
theorem dX1_plans_107 : decode cX1_plans 107 = .ok (.iadd, 1) := dk_96 (dk_at dksX1_plans_4 12 rfl rfl)
theorem dX1_plans_108 : decode cX1_plans 108 = .ok (.iload_n 3, 1) := dk_29 (dk_at dksX1_plans_4 13 rfl rfl)
theorem dX1_plans_109 : decode cX1_plans 109 = .ok (.invokevirtual 288, 3) := dk_182 1 32 (dk_at dksX1_plans_4 14 rfl rfl)
theorem dX1_plans_112 : decode cX1_plans 112 = .ok (.iinc 4 1, 3) := dk_132 4 1 (dk_at dksX1_plans_4 17 rfl rfl)
theorem dX1_plans_115 : decode cX1_plans 115 = .ok (.goto (-50), 3) := dk_167 255 206 (dk_at dksX1_plans_4 20 rfl rfl)
theorem dX1_plans_118 : decode cX1_plans 118 = .ok (.return_, 1) := dk_177 (dk_at dksX1_plans_4 23 rfl rfl)
abbrev cX1_tries : ByteArray := prog_1_method_34_code
def yX1_tries : MethodName := ⟨RX1, "tries", "(LRoarMill$State;LRoarMill$State;I)Z"⟩
def dkwX1_tries_2 : List UInt8 := [44, 180, 0, 222, 160, 0, 7, 4, 167, 0, 4, 3, 172]
abbrev dktX1_tries_2 : List UInt8 := dkwX1_tries_2 ++ []
def dkwX1_tries_1 : List UInt8 := [43, 42, 180, 0, 127, 42, 180, 0, 43, 1, 182, 0, 193, 43, 180, 0, 197, 154, 0, 18, 43, 180, 0, 222]
abbrev dktX1_tries_1 : List UInt8 := dkwX1_tries_1 ++ dktX1_tries_2
def dkwX1_tries_0 : List UInt8 := [43, 44, 182, 1, 36, 42, 180, 0, 43, 42, 180, 0, 39, 182, 1, 40, 42, 180, 0, 43, 29, 181, 0, 163]
abbrev dktX1_tries_0 : List UInt8 := dkwX1_tries_0 ++ dktX1_tries_1
theorem dksX1_tries_0 : cX1_tries.data.toList.drop 0 = dktX1_tries_0 := by decide +kernel
theorem dksX1_tries_1 : cX1_tries.data.toList.drop 24 = dktX1_tries_1 := dk_seg dksX1_tries_0 24 rfl rfl
theorem dksX1_tries_2 : cX1_tries.data.toList.drop 48 = dktX1_tries_2 := dk_seg dksX1_tries_1 24 rfl rfl
theorem dX1_tries_0 : decode cX1_tries 0 = .ok (.aload_n 1, 1) := dk_43 (dk_at dksX1_tries_0 0 rfl rfl)
theorem dX1_tries_1 : decode cX1_tries 1 = .ok (.aload_n 2, 1) := dk_44 (dk_at dksX1_tries_0 1 rfl rfl)
theorem dX1_tries_2 : decode cX1_tries 2 = .ok (.invokevirtual 292, 3) := dk_182 1 36 (dk_at dksX1_tries_0 2 rfl rfl)
theorem dX1_tries_5 : decode cX1_tries 5 = .ok (.aload_n 0, 1) := dk_42 (dk_at dksX1_tries_0 5 rfl rfl)
theorem dX1_tries_6 : decode cX1_tries 6 = .ok (.getfield 43, 3) := dk_180 0 43 (dk_at dksX1_tries_0 6 rfl rfl)
theorem dX1_tries_9 : decode cX1_tries 9 = .ok (.aload_n 0, 1) := dk_42 (dk_at dksX1_tries_0 9 rfl rfl)
theorem dX1_tries_10 : decode cX1_tries 10 = .ok (.getfield 39, 3) := dk_180 0 39 (dk_at dksX1_tries_0 10 rfl rfl)
theorem dX1_tries_13 : decode cX1_tries 13 = .ok (.invokevirtual 296, 3) := dk_182 1 40 (dk_at dksX1_tries_0 13 rfl rfl)
theorem dX1_tries_16 : decode cX1_tries 16 = .ok (.aload_n 0, 1) := dk_42 (dk_at dksX1_tries_0 16 rfl rfl)
theorem dX1_tries_17 : decode cX1_tries 17 = .ok (.getfield 43, 3) := dk_180 0 43 (dk_at dksX1_tries_0 17 rfl rfl)
theorem dX1_tries_20 : decode cX1_tries 20 = .ok (.iload_n 3, 1) := dk_29 (dk_at dksX1_tries_0 20 rfl rfl)
theorem dX1_tries_21 : decode cX1_tries 21 = .ok (.putfield 163, 3) := dk_181 0 163 (dk_at dksX1_tries_0 21 rfl rfl)
theorem dX1_tries_24 : decode cX1_tries 24 = .ok (.aload_n 1, 1) := dk_43 (dk_at dksX1_tries_1 0 rfl rfl)
theorem dX1_tries_25 : decode cX1_tries 25 = .ok (.aload_n 0, 1) := dk_42 (dk_at dksX1_tries_1 1 rfl rfl)
theorem dX1_tries_26 : decode cX1_tries 26 = .ok (.getfield 127, 3) := dk_180 0 127 (dk_at dksX1_tries_1 2 rfl rfl)
theorem dX1_tries_29 : decode cX1_tries 29 = .ok (.aload_n 0, 1) := dk_42 (dk_at dksX1_tries_1 5 rfl rfl)
theorem dX1_tries_30 : decode cX1_tries 30 = .ok (.getfield 43, 3) := dk_180 0 43 (dk_at dksX1_tries_1 6 rfl rfl)
theorem dX1_tries_33 : decode cX1_tries 33 = .ok (.aconst_null, 1) := dk_1 (dk_at dksX1_tries_1 9 rfl rfl)
theorem dX1_tries_34 : decode cX1_tries 34 = .ok (.invokevirtual 193, 3) := dk_182 0 193 (dk_at dksX1_tries_1 10 rfl rfl)
theorem dX1_tries_37 : decode cX1_tries 37 = .ok (.aload_n 1, 1) := dk_43 (dk_at dksX1_tries_1 13 rfl rfl)
theorem dX1_tries_38 : decode cX1_tries 38 = .ok (.getfield 197, 3) := dk_180 0 197 (dk_at dksX1_tries_1 14 rfl rfl)
theorem dX1_tries_41 : decode cX1_tries 41 = .ok (.ifCond .ne 18, 3) := dk_154 0 18 (dk_at dksX1_tries_1 17 rfl rfl)
theorem dX1_tries_44 : decode cX1_tries 44 = .ok (.aload_n 1, 1) := dk_43 (dk_at dksX1_tries_1 20 rfl rfl)
theorem dX1_tries_45 : decode cX1_tries 45 = .ok (.getfield 222, 3) := dk_180 0 222 (dk_at dksX1_tries_1 21 rfl rfl)
theorem dX1_tries_48 : decode cX1_tries 48 = .ok (.aload_n 2, 1) := dk_44 (dk_at dksX1_tries_2 0 rfl rfl)
theorem dX1_tries_49 : decode cX1_tries 49 = .ok (.getfield 222, 3) := dk_180 0 222 (dk_at dksX1_tries_2 1 rfl rfl)
theorem dX1_tries_52 : decode cX1_tries 52 = .ok (.if_icmp .ne 7, 3) := dk_160 0 7 (dk_at dksX1_tries_2 4 rfl rfl)
theorem dX1_tries_55 : decode cX1_tries 55 = .ok (.iconst 1, 1) := dk_4 (dk_at dksX1_tries_2 7 rfl rfl)
theorem dX1_tries_56 : decode cX1_tries 56 = .ok (.goto 4, 3) := dk_167 0 4 (dk_at dksX1_tries_2 8 rfl rfl)
theorem dX1_tries_59 : decode cX1_tries 59 = .ok (.iconst 0, 1) := dk_3 (dk_at dksX1_tries_2 11 rfl rfl)
theorem dX1_tries_60 : decode cX1_tries 60 = .ok (.ireturn, 1) := dk_172 (dk_at dksX1_tries_2 12 rfl rfl)
abbrev cX1_rate : ByteArray := prog_1_method_36_code
def yX1_rate : MethodName := ⟨RX1, "rate", "(I)I"⟩
def dkwX1_rate_1 : List UInt8 := [172]
abbrev dktX1_rate_1 : List UInt8 := dkwX1_rate_1 ++ []
def dkwX1_rate_0 : List UInt8 := [27, 3, 42, 180, 0, 152, 4, 100, 184, 0, 112, 153, 0, 12, 42, 180, 0, 79, 27, 46, 167, 0, 4, 2]
abbrev dktX1_rate_0 : List UInt8 := dkwX1_rate_0 ++ dktX1_rate_1
theorem dksX1_rate_0 : cX1_rate.data.toList.drop 0 = dktX1_rate_0 := by decide +kernel
theorem dksX1_rate_1 : cX1_rate.data.toList.drop 24 = dktX1_rate_1 := dk_seg dksX1_rate_0 24 rfl rfl
theorem dX1_rate_0 : decode cX1_rate 0 = .ok (.iload_n 1, 1) := dk_27 (dk_at dksX1_rate_0 0 rfl rfl)
theorem dX1_rate_1 : decode cX1_rate 1 = .ok (.iconst 0, 1) := dk_3 (dk_at dksX1_rate_0 1 rfl rfl)
theorem dX1_rate_2 : decode cX1_rate 2 = .ok (.aload_n 0, 1) := dk_42 (dk_at dksX1_rate_0 2 rfl rfl)
theorem dX1_rate_3 : decode cX1_rate 3 = .ok (.getfield 152, 3) := dk_180 0 152 (dk_at dksX1_rate_0 3 rfl rfl)
theorem dX1_rate_6 : decode cX1_rate 6 = .ok (.iconst 1, 1) := dk_4 (dk_at dksX1_rate_0 6 rfl rfl)
theorem dX1_rate_7 : decode cX1_rate 7 = .ok (.isub, 1) := dk_100 (dk_at dksX1_rate_0 7 rfl rfl)
theorem dX1_rate_8 : decode cX1_rate 8 = .ok (.invokestatic 112, 3) := dk_184 0 112 (dk_at dksX1_rate_0 8 rfl rfl)
theorem dX1_rate_11 : decode cX1_rate 11 = .ok (.ifCond .eq 12, 3) := dk_153 0 12 (dk_at dksX1_rate_0 11 rfl rfl)
theorem dX1_rate_14 : decode cX1_rate 14 = .ok (.aload_n 0, 1) := dk_42 (dk_at dksX1_rate_0 14 rfl rfl)
theorem dX1_rate_15 : decode cX1_rate 15 = .ok (.getfield 79, 3) := dk_180 0 79 (dk_at dksX1_rate_0 15 rfl rfl)
theorem dX1_rate_18 : decode cX1_rate 18 = .ok (.iload_n 1, 1) := dk_27 (dk_at dksX1_rate_0 18 rfl rfl)
theorem dX1_rate_19 : decode cX1_rate 19 = .ok (.iaload, 1) := dk_46 (dk_at dksX1_rate_0 19 rfl rfl)
theorem dX1_rate_20 : decode cX1_rate 20 = .ok (.goto 4, 3) := dk_167 0 4 (dk_at dksX1_rate_0 20 rfl rfl)
theorem dX1_rate_23 : decode cX1_rate 23 = .ok (.iconst (-1), 1) := dk_2 (dk_at dksX1_rate_0 23 rfl rfl)
theorem dX1_rate_24 : decode cX1_rate 24 = .ok (.ireturn, 1) := dk_172 (dk_at dksX1_rate_1 0 rfl rfl)
abbrev cX1_rule : ByteArray := prog_1_method_39_code
def yX1_rule : MethodName := ⟨RX1, "rule", "(I)I"⟩
def dkwX1_rule_1 : List UInt8 := [182, 1, 46, 180, 0, 237, 42, 180, 0, 29, 180, 0, 237, 101, 136, 172]
abbrev dktX1_rule_1 : List UInt8 := dkwX1_rule_1 ++ []
def dkwX1_rule_0 : List UInt8 := [42, 182, 0, 102, 42, 27, 182, 1, 43, 61, 28, 153, 0, 11, 42, 28, 182, 0, 116, 167, 0, 20, 42, 27]
abbrev dktX1_rule_0 : List UInt8 := dkwX1_rule_0 ++ dktX1_rule_1
theorem dksX1_rule_0 : cX1_rule.data.toList.drop 0 = dktX1_rule_0 := by decide +kernel
theorem dksX1_rule_1 : cX1_rule.data.toList.drop 24 = dktX1_rule_1 := dk_seg dksX1_rule_0 24 rfl rfl
theorem dX1_rule_0 : decode cX1_rule 0 = .ok (.aload_n 0, 1) := dk_42 (dk_at dksX1_rule_0 0 rfl rfl)
theorem dX1_rule_1 : decode cX1_rule 1 = .ok (.invokevirtual 102, 3) := dk_182 0 102 (dk_at dksX1_rule_0 1 rfl rfl)
theorem dX1_rule_4 : decode cX1_rule 4 = .ok (.aload_n 0, 1) := dk_42 (dk_at dksX1_rule_0 4 rfl rfl)
theorem dX1_rule_5 : decode cX1_rule 5 = .ok (.iload_n 1, 1) := dk_27 (dk_at dksX1_rule_0 5 rfl rfl)
theorem dX1_rule_6 : decode cX1_rule 6 = .ok (.invokevirtual 299, 3) := dk_182 1 43 (dk_at dksX1_rule_0 6 rfl rfl)
theorem dX1_rule_9 : decode cX1_rule 9 = .ok (.istore_n 2, 1) := dk_61 (dk_at dksX1_rule_0 9 rfl rfl)
theorem dX1_rule_10 : decode cX1_rule 10 = .ok (.iload_n 2, 1) := dk_28 (dk_at dksX1_rule_0 10 rfl rfl)
theorem dX1_rule_11 : decode cX1_rule 11 = .ok (.ifCond .eq 11, 3) := dk_153 0 11 (dk_at dksX1_rule_0 11 rfl rfl)
theorem dX1_rule_14 : decode cX1_rule 14 = .ok (.aload_n 0, 1) := dk_42 (dk_at dksX1_rule_0 14 rfl rfl)
theorem dX1_rule_15 : decode cX1_rule 15 = .ok (.iload_n 2, 1) := dk_28 (dk_at dksX1_rule_0 15 rfl rfl)
theorem dX1_rule_16 : decode cX1_rule 16 = .ok (.invokevirtual 116, 3) := dk_182 0 116 (dk_at dksX1_rule_0 16 rfl rfl)
theorem dX1_rule_19 : decode cX1_rule 19 = .ok (.goto 20, 3) := dk_167 0 20 (dk_at dksX1_rule_0 19 rfl rfl)
theorem dX1_rule_22 : decode cX1_rule 22 = .ok (.aload_n 0, 1) := dk_42 (dk_at dksX1_rule_0 22 rfl rfl)
theorem dX1_rule_23 : decode cX1_rule 23 = .ok (.iload_n 1, 1) := dk_27 (dk_at dksX1_rule_0 23 rfl rfl)
theorem dX1_rule_24 : decode cX1_rule 24 = .ok (.invokevirtual 302, 3) := dk_182 1 46 (dk_at dksX1_rule_1 0 rfl rfl)
theorem dX1_rule_27 : decode cX1_rule 27 = .ok (.getfield 237, 3) := dk_180 0 237 (dk_at dksX1_rule_1 3 rfl rfl)
theorem dX1_rule_30 : decode cX1_rule 30 = .ok (.aload_n 0, 1) := dk_42 (dk_at dksX1_rule_1 6 rfl rfl)
theorem dX1_rule_31 : decode cX1_rule 31 = .ok (.getfield 29, 3) := dk_180 0 29 (dk_at dksX1_rule_1 7 rfl rfl)
theorem dX1_rule_34 : decode cX1_rule 34 = .ok (.getfield 237, 3) := dk_180 0 237 (dk_at dksX1_rule_1 10 rfl rfl)
theorem dX1_rule_37 : decode cX1_rule 37 = .ok (.lsub, 1) := dk_101 (dk_at dksX1_rule_1 13 rfl rfl)
theorem dX1_rule_38 : decode cX1_rule 38 = .ok (.l2i, 1) := dk_136 (dk_at dksX1_rule_1 14 rfl rfl)
theorem dX1_rule_39 : decode cX1_rule 39 = .ok (.ireturn, 1) := dk_172 (dk_at dksX1_rule_1 15 rfl rfl)
abbrev cX1_ruleWhy : ByteArray := prog_1_method_38_code
def yX1_ruleWhy : MethodName := ⟨RX1, "ruleWhy", "(I)I"⟩
def dkwX1_ruleWhy_1 : List UInt8 := [5, 172]
abbrev dktX1_ruleWhy_1 : List UInt8 := dkwX1_ruleWhy_1 ++ []
def dkwX1_ruleWhy_0 : List UInt8 := [42, 180, 0, 127, 199, 0, 7, 4, 167, 0, 17, 27, 4, 8, 184, 0, 112, 153, 0, 7, 3, 167, 0, 4]
abbrev dktX1_ruleWhy_0 : List UInt8 := dkwX1_ruleWhy_0 ++ dktX1_ruleWhy_1
theorem dksX1_ruleWhy_0 : cX1_ruleWhy.data.toList.drop 0 = dktX1_ruleWhy_0 := by decide +kernel
theorem dksX1_ruleWhy_1 : cX1_ruleWhy.data.toList.drop 24 = dktX1_ruleWhy_1 := dk_seg dksX1_ruleWhy_0 24 rfl rfl
theorem dX1_ruleWhy_0 : decode cX1_ruleWhy 0 = .ok (.aload_n 0, 1) := dk_42 (dk_at dksX1_ruleWhy_0 0 rfl rfl)
theorem dX1_ruleWhy_1 : decode cX1_ruleWhy 1 = .ok (.getfield 127, 3) := dk_180 0 127 (dk_at dksX1_ruleWhy_0 1 rfl rfl)
theorem dX1_ruleWhy_4 : decode cX1_ruleWhy 4 = .ok (.ifnonnull 7, 3) := dk_199 0 7 (dk_at dksX1_ruleWhy_0 4 rfl rfl)
theorem dX1_ruleWhy_7 : decode cX1_ruleWhy 7 = .ok (.iconst 1, 1) := dk_4 (dk_at dksX1_ruleWhy_0 7 rfl rfl)
theorem dX1_ruleWhy_8 : decode cX1_ruleWhy 8 = .ok (.goto 17, 3) := dk_167 0 17 (dk_at dksX1_ruleWhy_0 8 rfl rfl)
theorem dX1_ruleWhy_11 : decode cX1_ruleWhy 11 = .ok (.iload_n 1, 1) := dk_27 (dk_at dksX1_ruleWhy_0 11 rfl rfl)
theorem dX1_ruleWhy_12 : decode cX1_ruleWhy 12 = .ok (.iconst 1, 1) := dk_4 (dk_at dksX1_ruleWhy_0 12 rfl rfl)
theorem dX1_ruleWhy_13 : decode cX1_ruleWhy 13 = .ok (.iconst 5, 1) := dk_8 (dk_at dksX1_ruleWhy_0 13 rfl rfl)
theorem dX1_ruleWhy_14 : decode cX1_ruleWhy 14 = .ok (.invokestatic 112, 3) := dk_184 0 112 (dk_at dksX1_ruleWhy_0 14 rfl rfl)
theorem dX1_ruleWhy_17 : decode cX1_ruleWhy 17 = .ok (.ifCond .eq 7, 3) := dk_153 0 7 (dk_at dksX1_ruleWhy_0 17 rfl rfl)
theorem dX1_ruleWhy_20 : decode cX1_ruleWhy 20 = .ok (.iconst 0, 1) := dk_3 (dk_at dksX1_ruleWhy_0 20 rfl rfl)
theorem dX1_ruleWhy_21 : decode cX1_ruleWhy 21 = .ok (.goto 4, 3) := dk_167 0 4 (dk_at dksX1_ruleWhy_0 21 rfl rfl)
theorem dX1_ruleWhy_24 : decode cX1_ruleWhy 24 = .ok (.iconst 2, 1) := dk_5 (dk_at dksX1_ruleWhy_1 0 rfl rfl)
theorem dX1_ruleWhy_25 : decode cX1_ruleWhy 25 = .ok (.ireturn, 1) := dk_172 (dk_at dksX1_ruleWhy_1 1 rfl rfl)
abbrev cX1_ruled : ByteArray := prog_1_method_37_code
def yX1_ruled : MethodName := ⟨RX1, "ruled", "(I)LRoarMill$State;"⟩
def dkwX1_ruled_3 : List UInt8 := [182, 1, 28, 87, 42, 180, 0, 33, 44, 182, 1, 36, 132, 3, 1, 167, 255, 194, 42, 180, 0, 33, 176]
abbrev dktX1_ruled_3 : List UInt8 := dkwX1_ruled_3 ++ []
def dkwX1_ruled_2 : List UInt8 := [154, 0, 9, 132, 4, 1, 167, 255, 233, 21, 4, 7, 160, 0, 14, 42, 44, 42, 180, 0, 33, 3]
abbrev dktX1_ruled_2 : List UInt8 := dkwX1_ruled_2 ++ dktX1_ruled_3
def dkwX1_ruled_1 : List UInt8 := [162, 0, 63, 3, 54, 4, 21, 4, 7, 162, 0, 23, 42, 44, 42, 180, 0, 33, 21, 4, 182, 1, 28]
abbrev dktX1_ruled_1 : List UInt8 := dkwX1_ruled_1 ++ dktX1_ruled_2
def dkwX1_ruled_0 : List UInt8 := [42, 180, 0, 33, 42, 180, 0, 29, 182, 1, 36, 42, 180, 0, 69, 3, 50, 77, 3, 62, 29, 27]
abbrev dktX1_ruled_0 : List UInt8 := dkwX1_ruled_0 ++ dktX1_ruled_1
theorem dksX1_ruled_0 : cX1_ruled.data.toList.drop 0 = dktX1_ruled_0 := by decide +kernel
theorem dksX1_ruled_1 : cX1_ruled.data.toList.drop 22 = dktX1_ruled_1 := dk_seg dksX1_ruled_0 22 rfl rfl
theorem dksX1_ruled_2 : cX1_ruled.data.toList.drop 45 = dktX1_ruled_2 := dk_seg dksX1_ruled_1 23 rfl rfl
theorem dksX1_ruled_3 : cX1_ruled.data.toList.drop 67 = dktX1_ruled_3 := dk_seg dksX1_ruled_2 22 rfl rfl
theorem dX1_ruled_0 : decode cX1_ruled 0 = .ok (.aload_n 0, 1) := dk_42 (dk_at dksX1_ruled_0 0 rfl rfl)
theorem dX1_ruled_1 : decode cX1_ruled 1 = .ok (.getfield 33, 3) := dk_180 0 33 (dk_at dksX1_ruled_0 1 rfl rfl)
theorem dX1_ruled_4 : decode cX1_ruled 4 = .ok (.aload_n 0, 1) := dk_42 (dk_at dksX1_ruled_0 4 rfl rfl)
theorem dX1_ruled_5 : decode cX1_ruled 5 = .ok (.getfield 29, 3) := dk_180 0 29 (dk_at dksX1_ruled_0 5 rfl rfl)
theorem dX1_ruled_8 : decode cX1_ruled 8 = .ok (.invokevirtual 292, 3) := dk_182 1 36 (dk_at dksX1_ruled_0 8 rfl rfl)
theorem dX1_ruled_11 : decode cX1_ruled 11 = .ok (.aload_n 0, 1) := dk_42 (dk_at dksX1_ruled_0 11 rfl rfl)
theorem dX1_ruled_12 : decode cX1_ruled 12 = .ok (.getfield 69, 3) := dk_180 0 69 (dk_at dksX1_ruled_0 12 rfl rfl)
theorem dX1_ruled_15 : decode cX1_ruled 15 = .ok (.iconst 0, 1) := dk_3 (dk_at dksX1_ruled_0 15 rfl rfl)
theorem dX1_ruled_16 : decode cX1_ruled 16 = .ok (.aaload, 1) := dk_50 (dk_at dksX1_ruled_0 16 rfl rfl)
theorem dX1_ruled_17 : decode cX1_ruled 17 = .ok (.astore_n 2, 1) := dk_77 (dk_at dksX1_ruled_0 17 rfl rfl)
theorem dX1_ruled_18 : decode cX1_ruled 18 = .ok (.iconst 0, 1) := dk_3 (dk_at dksX1_ruled_0 18 rfl rfl)
theorem dX1_ruled_19 : decode cX1_ruled 19 = .ok (.istore_n 3, 1) := dk_62 (dk_at dksX1_ruled_0 19 rfl rfl)
theorem dX1_ruled_20 : decode cX1_ruled 20 = .ok (.iload_n 3, 1) := dk_29 (dk_at dksX1_ruled_0 20 rfl rfl)
theorem dX1_ruled_21 : decode cX1_ruled 21 = .ok (.iload_n 1, 1) := dk_27 (dk_at dksX1_ruled_0 21 rfl rfl)
theorem dX1_ruled_22 : decode cX1_ruled 22 = .ok (.if_icmp .ge 63, 3) := dk_162 0 63 (dk_at dksX1_ruled_1 0 rfl rfl)
theorem dX1_ruled_25 : decode cX1_ruled 25 = .ok (.iconst 0, 1) := dk_3 (dk_at dksX1_ruled_1 3 rfl rfl)
theorem dX1_ruled_26 : decode cX1_ruled 26 = .ok (.istore 4, 2) := dk_54 4 (dk_at dksX1_ruled_1 4 rfl rfl)
theorem dX1_ruled_28 : decode cX1_ruled 28 = .ok (.iload 4, 2) := dk_21 4 (dk_at dksX1_ruled_1 6 rfl rfl)
theorem dX1_ruled_30 : decode cX1_ruled 30 = .ok (.iconst 4, 1) := dk_7 (dk_at dksX1_ruled_1 8 rfl rfl)
theorem dX1_ruled_31 : decode cX1_ruled 31 = .ok (.if_icmp .ge 23, 3) := dk_162 0 23 (dk_at dksX1_ruled_1 9 rfl rfl)
theorem dX1_ruled_34 : decode cX1_ruled 34 = .ok (.aload_n 0, 1) := dk_42 (dk_at dksX1_ruled_1 12 rfl rfl)
theorem dX1_ruled_35 : decode cX1_ruled 35 = .ok (.aload_n 2, 1) := dk_44 (dk_at dksX1_ruled_1 13 rfl rfl)
theorem dX1_ruled_36 : decode cX1_ruled 36 = .ok (.aload_n 0, 1) := dk_42 (dk_at dksX1_ruled_1 14 rfl rfl)
theorem dX1_ruled_37 : decode cX1_ruled 37 = .ok (.getfield 33, 3) := dk_180 0 33 (dk_at dksX1_ruled_1 15 rfl rfl)
theorem dX1_ruled_40 : decode cX1_ruled 40 = .ok (.iload 4, 2) := dk_21 4 (dk_at dksX1_ruled_1 18 rfl rfl)
theorem dX1_ruled_42 : decode cX1_ruled 42 = .ok (.invokevirtual 284, 3) := dk_182 1 28 (dk_at dksX1_ruled_1 20 rfl rfl)
theorem dX1_ruled_45 : decode cX1_ruled 45 = .ok (.ifCond .ne 9, 3) := dk_154 0 9 (dk_at dksX1_ruled_2 0 rfl rfl)
theorem dX1_ruled_48 : decode cX1_ruled 48 = .ok (.iinc 4 1, 3) := dk_132 4 1 (dk_at dksX1_ruled_2 3 rfl rfl)
theorem dX1_ruled_51 : decode cX1_ruled 51 = .ok (.goto (-23), 3) := dk_167 255 233 (dk_at dksX1_ruled_2 6 rfl rfl)
theorem dX1_ruled_54 : decode cX1_ruled 54 = .ok (.iload 4, 2) := dk_21 4 (dk_at dksX1_ruled_2 9 rfl rfl)
theorem dX1_ruled_56 : decode cX1_ruled 56 = .ok (.iconst 4, 1) := dk_7 (dk_at dksX1_ruled_2 11 rfl rfl)
theorem dX1_ruled_57 : decode cX1_ruled 57 = .ok (.if_icmp .ne 14, 3) := dk_160 0 14 (dk_at dksX1_ruled_2 12 rfl rfl)
theorem dX1_ruled_60 : decode cX1_ruled 60 = .ok (.aload_n 0, 1) := dk_42 (dk_at dksX1_ruled_2 15 rfl rfl)
theorem dX1_ruled_61 : decode cX1_ruled 61 = .ok (.aload_n 2, 1) := dk_44 (dk_at dksX1_ruled_2 16 rfl rfl)
theorem dX1_ruled_62 : decode cX1_ruled 62 = .ok (.aload_n 0, 1) := dk_42 (dk_at dksX1_ruled_2 17 rfl rfl)
theorem dX1_ruled_63 : decode cX1_ruled 63 = .ok (.getfield 33, 3) := dk_180 0 33 (dk_at dksX1_ruled_2 18 rfl rfl)
theorem dX1_ruled_66 : decode cX1_ruled 66 = .ok (.iconst 0, 1) := dk_3 (dk_at dksX1_ruled_2 21 rfl rfl)
theorem dX1_ruled_67 : decode cX1_ruled 67 = .ok (.invokevirtual 284, 3) := dk_182 1 28 (dk_at dksX1_ruled_3 0 rfl rfl)
theorem dX1_ruled_70 : decode cX1_ruled 70 = .ok (.pop, 1) := dk_87 (dk_at dksX1_ruled_3 3 rfl rfl)
theorem dX1_ruled_71 : decode cX1_ruled 71 = .ok (.aload_n 0, 1) := dk_42 (dk_at dksX1_ruled_3 4 rfl rfl)
theorem dX1_ruled_72 : decode cX1_ruled 72 = .ok (.getfield 33, 3) := dk_180 0 33 (dk_at dksX1_ruled_3 5 rfl rfl)
theorem dX1_ruled_75 : decode cX1_ruled 75 = .ok (.aload_n 2, 1) := dk_44 (dk_at dksX1_ruled_3 8 rfl rfl)
theorem dX1_ruled_76 : decode cX1_ruled 76 = .ok (.invokevirtual 292, 3) := dk_182 1 36 (dk_at dksX1_ruled_3 9 rfl rfl)
theorem dX1_ruled_79 : decode cX1_ruled 79 = .ok (.iinc 3 1, 3) := dk_132 3 1 (dk_at dksX1_ruled_3 12 rfl rfl)
theorem dX1_ruled_82 : decode cX1_ruled 82 = .ok (.goto (-62), 3) := dk_167 255 194 (dk_at dksX1_ruled_3 15 rfl rfl)
theorem dX1_ruled_85 : decode cX1_ruled 85 = .ok (.aload_n 0, 1) := dk_42 (dk_at dksX1_ruled_3 18 rfl rfl)
theorem dX1_ruled_86 : decode cX1_ruled 86 = .ok (.getfield 33, 3) := dk_180 0 33 (dk_at dksX1_ruled_3 19 rfl rfl)
theorem dX1_ruled_89 : decode cX1_ruled 89 = .ok (.areturn, 1) := dk_176 (dk_at dksX1_ruled_3 22 rfl rfl)
abbrev cX1_lacks : ByteArray := prog_1_method_40_code
def yX1_lacks : MethodName := ⟨RX1, "lacks", "(I)I"⟩
def dkwX1_lacks_1 : List UInt8 := [182, 1, 46, 180, 0, 222, 42, 180, 0, 29, 180, 0, 222, 100, 172]
abbrev dktX1_lacks_1 : List UInt8 := dkwX1_lacks_1 ++ []
def dkwX1_lacks_0 : List UInt8 := [42, 182, 0, 102, 42, 27, 182, 1, 43, 61, 28, 153, 0, 11, 42, 28, 182, 0, 116, 167, 0, 19, 42, 27]
abbrev dktX1_lacks_0 : List UInt8 := dkwX1_lacks_0 ++ dktX1_lacks_1
theorem dksX1_lacks_0 : cX1_lacks.data.toList.drop 0 = dktX1_lacks_0 := by decide +kernel
theorem dksX1_lacks_1 : cX1_lacks.data.toList.drop 24 = dktX1_lacks_1 := dk_seg dksX1_lacks_0 24 rfl rfl
theorem dX1_lacks_0 : decode cX1_lacks 0 = .ok (.aload_n 0, 1) := dk_42 (dk_at dksX1_lacks_0 0 rfl rfl)
theorem dX1_lacks_1 : decode cX1_lacks 1 = .ok (.invokevirtual 102, 3) := dk_182 0 102 (dk_at dksX1_lacks_0 1 rfl rfl)
theorem dX1_lacks_4 : decode cX1_lacks 4 = .ok (.aload_n 0, 1) := dk_42 (dk_at dksX1_lacks_0 4 rfl rfl)
theorem dX1_lacks_5 : decode cX1_lacks 5 = .ok (.iload_n 1, 1) := dk_27 (dk_at dksX1_lacks_0 5 rfl rfl)
theorem dX1_lacks_6 : decode cX1_lacks 6 = .ok (.invokevirtual 299, 3) := dk_182 1 43 (dk_at dksX1_lacks_0 6 rfl rfl)
theorem dX1_lacks_9 : decode cX1_lacks 9 = .ok (.istore_n 2, 1) := dk_61 (dk_at dksX1_lacks_0 9 rfl rfl)
theorem dX1_lacks_10 : decode cX1_lacks 10 = .ok (.iload_n 2, 1) := dk_28 (dk_at dksX1_lacks_0 10 rfl rfl)
theorem dX1_lacks_11 : decode cX1_lacks 11 = .ok (.ifCond .eq 11, 3) := dk_153 0 11 (dk_at dksX1_lacks_0 11 rfl rfl)
theorem dX1_lacks_14 : decode cX1_lacks 14 = .ok (.aload_n 0, 1) := dk_42 (dk_at dksX1_lacks_0 14 rfl rfl)
theorem dX1_lacks_15 : decode cX1_lacks 15 = .ok (.iload_n 2, 1) := dk_28 (dk_at dksX1_lacks_0 15 rfl rfl)
theorem dX1_lacks_16 : decode cX1_lacks 16 = .ok (.invokevirtual 116, 3) := dk_182 0 116 (dk_at dksX1_lacks_0 16 rfl rfl)
theorem dX1_lacks_19 : decode cX1_lacks 19 = .ok (.goto 19, 3) := dk_167 0 19 (dk_at dksX1_lacks_0 19 rfl rfl)
theorem dX1_lacks_22 : decode cX1_lacks 22 = .ok (.aload_n 0, 1) := dk_42 (dk_at dksX1_lacks_0 22 rfl rfl)
theorem dX1_lacks_23 : decode cX1_lacks 23 = .ok (.iload_n 1, 1) := dk_27 (dk_at dksX1_lacks_0 23 rfl rfl)
theorem dX1_lacks_24 : decode cX1_lacks 24 = .ok (.invokevirtual 302, 3) := dk_182 1 46 (dk_at dksX1_lacks_1 0 rfl rfl)
theorem dX1_lacks_27 : decode cX1_lacks 27 = .ok (.getfield 222, 3) := dk_180 0 222 (dk_at dksX1_lacks_1 3 rfl rfl)
theorem dX1_lacks_30 : decode cX1_lacks 30 = .ok (.aload_n 0, 1) := dk_42 (dk_at dksX1_lacks_1 6 rfl rfl)
theorem dX1_lacks_31 : decode cX1_lacks 31 = .ok (.getfield 29, 3) := dk_180 0 29 (dk_at dksX1_lacks_1 7 rfl rfl)
theorem dX1_lacks_34 : decode cX1_lacks 34 = .ok (.getfield 222, 3) := dk_180 0 222 (dk_at dksX1_lacks_1 10 rfl rfl)
theorem dX1_lacks_37 : decode cX1_lacks 37 = .ok (.isub, 1) := dk_100 (dk_at dksX1_lacks_1 13 rfl rfl)
theorem dX1_lacks_38 : decode cX1_lacks 38 = .ok (.ireturn, 1) := dk_172 (dk_at dksX1_lacks_1 14 rfl rfl)
abbrev cX1_number : ByteArray := prog_1_method_41_code
def yX1_number : MethodName := ⟨RX1, "number", "(ZI)I"⟩
def dkwX1_number_3 : List UInt8 := [180, 0, 149, 28, 79, 45, 89, 180, 0, 149, 4, 96, 181, 0, 149, 45, 180, 0, 149, 172]
abbrev dktX1_number_3 : List UInt8 := dkwX1_number_3 ++ []
def dkwX1_number_2 : List UInt8 := [180, 0, 85, 78, 45, 180, 0, 149, 16, 8, 160, 0, 9, 42, 6, 182, 0, 116, 172, 45, 180, 1, 50, 45]
abbrev dktX1_number_2 : List UInt8 := dkwX1_number_2 ++ dktX1_number_3
def dkwX1_number_1 : List UInt8 := [184, 0, 112, 154, 0, 9, 42, 5, 182, 0, 116, 172, 27, 153, 0, 10, 42, 180, 0, 89, 167, 0, 7, 42]
abbrev dktX1_number_1 : List UInt8 := dkwX1_number_1 ++ dktX1_number_2
def dkwX1_number_0 : List UInt8 := [42, 182, 0, 102, 42, 180, 0, 127, 199, 0, 9, 42, 4, 182, 0, 116, 172, 28, 3, 17, 3, 231]
abbrev dktX1_number_0 : List UInt8 := dkwX1_number_0 ++ dktX1_number_1
theorem dksX1_number_0 : cX1_number.data.toList.drop 0 = dktX1_number_0 := by decide +kernel
theorem dksX1_number_1 : cX1_number.data.toList.drop 22 = dktX1_number_1 := dk_seg dksX1_number_0 22 rfl rfl
theorem dksX1_number_2 : cX1_number.data.toList.drop 46 = dktX1_number_2 := dk_seg dksX1_number_1 24 rfl rfl
theorem dksX1_number_3 : cX1_number.data.toList.drop 70 = dktX1_number_3 := dk_seg dksX1_number_2 24 rfl rfl
theorem dX1_number_0 : decode cX1_number 0 = .ok (.aload_n 0, 1) := dk_42 (dk_at dksX1_number_0 0 rfl rfl)
theorem dX1_number_1 : decode cX1_number 1 = .ok (.invokevirtual 102, 3) := dk_182 0 102 (dk_at dksX1_number_0 1 rfl rfl)
theorem dX1_number_4 : decode cX1_number 4 = .ok (.aload_n 0, 1) := dk_42 (dk_at dksX1_number_0 4 rfl rfl)
theorem dX1_number_5 : decode cX1_number 5 = .ok (.getfield 127, 3) := dk_180 0 127 (dk_at dksX1_number_0 5 rfl rfl)
theorem dX1_number_8 : decode cX1_number 8 = .ok (.ifnonnull 9, 3) := dk_199 0 9 (dk_at dksX1_number_0 8 rfl rfl)
theorem dX1_number_11 : decode cX1_number 11 = .ok (.aload_n 0, 1) := dk_42 (dk_at dksX1_number_0 11 rfl rfl)
theorem dX1_number_12 : decode cX1_number 12 = .ok (.iconst 1, 1) := dk_4 (dk_at dksX1_number_0 12 rfl rfl)
theorem dX1_number_13 : decode cX1_number 13 = .ok (.invokevirtual 116, 3) := dk_182 0 116 (dk_at dksX1_number_0 13 rfl rfl)
theorem dX1_number_16 : decode cX1_number 16 = .ok (.ireturn, 1) := dk_172 (dk_at dksX1_number_0 16 rfl rfl)
theorem dX1_number_17 : decode cX1_number 17 = .ok (.iload_n 2, 1) := dk_28 (dk_at dksX1_number_0 17 rfl rfl)
theorem dX1_number_18 : decode cX1_number 18 = .ok (.iconst 0, 1) := dk_3 (dk_at dksX1_number_0 18 rfl rfl)
theorem dX1_number_19 : decode cX1_number 19 = .ok (.sipush 999, 3) := dk_17 3 231 (dk_at dksX1_number_0 19 rfl rfl)
theorem dX1_number_22 : decode cX1_number 22 = .ok (.invokestatic 112, 3) := dk_184 0 112 (dk_at dksX1_number_1 0 rfl rfl)
theorem dX1_number_25 : decode cX1_number 25 = .ok (.ifCond .ne 9, 3) := dk_154 0 9 (dk_at dksX1_number_1 3 rfl rfl)
theorem dX1_number_28 : decode cX1_number 28 = .ok (.aload_n 0, 1) := dk_42 (dk_at dksX1_number_1 6 rfl rfl)
theorem dX1_number_29 : decode cX1_number 29 = .ok (.iconst 2, 1) := dk_5 (dk_at dksX1_number_1 7 rfl rfl)
theorem dX1_number_30 : decode cX1_number 30 = .ok (.invokevirtual 116, 3) := dk_182 0 116 (dk_at dksX1_number_1 8 rfl rfl)
theorem dX1_number_33 : decode cX1_number 33 = .ok (.ireturn, 1) := dk_172 (dk_at dksX1_number_1 11 rfl rfl)
theorem dX1_number_34 : decode cX1_number 34 = .ok (.iload_n 1, 1) := dk_27 (dk_at dksX1_number_1 12 rfl rfl)
theorem dX1_number_35 : decode cX1_number 35 = .ok (.ifCond .eq 10, 3) := dk_153 0 10 (dk_at dksX1_number_1 13 rfl rfl)
theorem dX1_number_38 : decode cX1_number 38 = .ok (.aload_n 0, 1) := dk_42 (dk_at dksX1_number_1 16 rfl rfl)
theorem dX1_number_39 : decode cX1_number 39 = .ok (.getfield 89, 3) := dk_180 0 89 (dk_at dksX1_number_1 17 rfl rfl)
theorem dX1_number_42 : decode cX1_number 42 = .ok (.goto 7, 3) := dk_167 0 7 (dk_at dksX1_number_1 20 rfl rfl)
theorem dX1_number_45 : decode cX1_number 45 = .ok (.aload_n 0, 1) := dk_42 (dk_at dksX1_number_1 23 rfl rfl)
theorem dX1_number_46 : decode cX1_number 46 = .ok (.getfield 85, 3) := dk_180 0 85 (dk_at dksX1_number_2 0 rfl rfl)
theorem dX1_number_49 : decode cX1_number 49 = .ok (.astore_n 3, 1) := dk_78 (dk_at dksX1_number_2 3 rfl rfl)
theorem dX1_number_50 : decode cX1_number 50 = .ok (.aload_n 3, 1) := dk_45 (dk_at dksX1_number_2 4 rfl rfl)
theorem dX1_number_51 : decode cX1_number 51 = .ok (.getfield 149, 3) := dk_180 0 149 (dk_at dksX1_number_2 5 rfl rfl)
theorem dX1_number_54 : decode cX1_number 54 = .ok (.bipush 8, 2) := dk_16 8 (dk_at dksX1_number_2 8 rfl rfl)
theorem dX1_number_56 : decode cX1_number 56 = .ok (.if_icmp .ne 9, 3) := dk_160 0 9 (dk_at dksX1_number_2 10 rfl rfl)
theorem dX1_number_59 : decode cX1_number 59 = .ok (.aload_n 0, 1) := dk_42 (dk_at dksX1_number_2 13 rfl rfl)
theorem dX1_number_60 : decode cX1_number 60 = .ok (.iconst 3, 1) := dk_6 (dk_at dksX1_number_2 14 rfl rfl)
theorem dX1_number_61 : decode cX1_number 61 = .ok (.invokevirtual 116, 3) := dk_182 0 116 (dk_at dksX1_number_2 15 rfl rfl)
theorem dX1_number_64 : decode cX1_number 64 = .ok (.ireturn, 1) := dk_172 (dk_at dksX1_number_2 18 rfl rfl)
theorem dX1_number_65 : decode cX1_number 65 = .ok (.aload_n 3, 1) := dk_45 (dk_at dksX1_number_2 19 rfl rfl)
theorem dX1_number_66 : decode cX1_number 66 = .ok (.getfield 306, 3) := dk_180 1 50 (dk_at dksX1_number_2 20 rfl rfl)
theorem dX1_number_69 : decode cX1_number 69 = .ok (.aload_n 3, 1) := dk_45 (dk_at dksX1_number_2 23 rfl rfl)
theorem dX1_number_70 : decode cX1_number 70 = .ok (.getfield 149, 3) := dk_180 0 149 (dk_at dksX1_number_3 0 rfl rfl)
theorem dX1_number_73 : decode cX1_number 73 = .ok (.iload_n 2, 1) := dk_28 (dk_at dksX1_number_3 3 rfl rfl)
theorem dX1_number_74 : decode cX1_number 74 = .ok (.iastore, 1) := dk_79 (dk_at dksX1_number_3 4 rfl rfl)
theorem dX1_number_75 : decode cX1_number 75 = .ok (.aload_n 3, 1) := dk_45 (dk_at dksX1_number_3 5 rfl rfl)
theorem dX1_number_76 : decode cX1_number 76 = .ok (.dup, 1) := dk_89 (dk_at dksX1_number_3 6 rfl rfl)
theorem dX1_number_77 : decode cX1_number 77 = .ok (.getfield 149, 3) := dk_180 0 149 (dk_at dksX1_number_3 7 rfl rfl)
theorem dX1_number_80 : decode cX1_number 80 = .ok (.iconst 1, 1) := dk_4 (dk_at dksX1_number_3 10 rfl rfl)
theorem dX1_number_81 : decode cX1_number 81 = .ok (.iadd, 1) := dk_96 (dk_at dksX1_number_3 11 rfl rfl)
theorem dX1_number_82 : decode cX1_number 82 = .ok (.putfield 149, 3) := dk_181 0 149 (dk_at dksX1_number_3 12 rfl rfl)
theorem dX1_number_85 : decode cX1_number 85 = .ok (.aload_n 3, 1) := dk_45 (dk_at dksX1_number_3 15 rfl rfl)
theorem dX1_number_86 : decode cX1_number 86 = .ok (.getfield 149, 3) := dk_180 0 149 (dk_at dksX1_number_3 16 rfl rfl)
theorem dX1_number_89 : decode cX1_number 89 = .ok (.ireturn, 1) := dk_172 (dk_at dksX1_number_3 19 rfl rfl)
abbrev cX1_chance : ByteArray := prog_1_method_45_code
def yX1_chance : MethodName := ⟨RX1, "chance", "()I"⟩
def dkwX1_chance_1 : List UInt8 := [182, 1, 66, 182, 1, 59, 167, 0, 8, 42, 8, 182, 0, 116, 172]
abbrev dktX1_chance_1 : List UInt8 := dkwX1_chance_1 ++ []
def dkwX1_chance_0 : List UInt8 := [42, 182, 0, 102, 42, 182, 1, 62, 153, 0, 25, 42, 3, 42, 180, 0, 89, 180, 0, 149, 42, 180, 0, 89]
abbrev dktX1_chance_0 : List UInt8 := dkwX1_chance_0 ++ dktX1_chance_1
theorem dksX1_chance_0 : cX1_chance.data.toList.drop 0 = dktX1_chance_0 := by decide +kernel
theorem dksX1_chance_1 : cX1_chance.data.toList.drop 24 = dktX1_chance_1 := dk_seg dksX1_chance_0 24 rfl rfl
theorem dX1_chance_0 : decode cX1_chance 0 = .ok (.aload_n 0, 1) := dk_42 (dk_at dksX1_chance_0 0 rfl rfl)
theorem dX1_chance_1 : decode cX1_chance 1 = .ok (.invokevirtual 102, 3) := dk_182 0 102 (dk_at dksX1_chance_0 1 rfl rfl)
theorem dX1_chance_4 : decode cX1_chance 4 = .ok (.aload_n 0, 1) := dk_42 (dk_at dksX1_chance_0 4 rfl rfl)
theorem dX1_chance_5 : decode cX1_chance 5 = .ok (.invokevirtual 318, 3) := dk_182 1 62 (dk_at dksX1_chance_0 5 rfl rfl)
theorem dX1_chance_8 : decode cX1_chance 8 = .ok (.ifCond .eq 25, 3) := dk_153 0 25 (dk_at dksX1_chance_0 8 rfl rfl)
theorem dX1_chance_11 : decode cX1_chance 11 = .ok (.aload_n 0, 1) := dk_42 (dk_at dksX1_chance_0 11 rfl rfl)
theorem dX1_chance_12 : decode cX1_chance 12 = .ok (.iconst 0, 1) := dk_3 (dk_at dksX1_chance_0 12 rfl rfl)
theorem dX1_chance_13 : decode cX1_chance 13 = .ok (.aload_n 0, 1) := dk_42 (dk_at dksX1_chance_0 13 rfl rfl)
theorem dX1_chance_14 : decode cX1_chance 14 = .ok (.getfield 89, 3) := dk_180 0 89 (dk_at dksX1_chance_0 14 rfl rfl)
theorem dX1_chance_17 : decode cX1_chance 17 = .ok (.getfield 149, 3) := dk_180 0 149 (dk_at dksX1_chance_0 17 rfl rfl)
theorem dX1_chance_20 : decode cX1_chance 20 = .ok (.aload_n 0, 1) := dk_42 (dk_at dksX1_chance_0 20 rfl rfl)
theorem dX1_chance_21 : decode cX1_chance 21 = .ok (.getfield 89, 3) := dk_180 0 89 (dk_at dksX1_chance_0 21 rfl rfl)
theorem dX1_chance_24 : decode cX1_chance 24 = .ok (.invokevirtual 322, 3) := dk_182 1 66 (dk_at dksX1_chance_1 0 rfl rfl)
theorem dX1_chance_27 : decode cX1_chance 27 = .ok (.invokevirtual 315, 3) := dk_182 1 59 (dk_at dksX1_chance_1 3 rfl rfl)
theorem dX1_chance_30 : decode cX1_chance 30 = .ok (.goto 8, 3) := dk_167 0 8 (dk_at dksX1_chance_1 6 rfl rfl)
theorem dX1_chance_33 : decode cX1_chance 33 = .ok (.aload_n 0, 1) := dk_42 (dk_at dksX1_chance_1 9 rfl rfl)
theorem dX1_chance_34 : decode cX1_chance 34 = .ok (.iconst 5, 1) := dk_8 (dk_at dksX1_chance_1 10 rfl rfl)
theorem dX1_chance_35 : decode cX1_chance 35 = .ok (.invokevirtual 116, 3) := dk_182 0 116 (dk_at dksX1_chance_1 11 rfl rfl)
theorem dX1_chance_38 : decode cX1_chance 38 = .ok (.ireturn, 1) := dk_172 (dk_at dksX1_chance_1 14 rfl rfl)
abbrev cX1_isTry : ByteArray := prog_1_method_44_code
def yX1_isTry : MethodName := ⟨RX1, "isTry", "()Z"⟩
def dkwX1_isTry_1 : List UInt8 := [3, 172]
abbrev dktX1_isTry_1 : List UInt8 := dkwX1_isTry_1 ++ []
def dkwX1_isTry_0 : List UInt8 := [42, 180, 0, 85, 180, 0, 149, 158, 0, 17, 42, 180, 0, 89, 180, 0, 149, 158, 0, 7, 4, 167, 0, 4]
abbrev dktX1_isTry_0 : List UInt8 := dkwX1_isTry_0 ++ dktX1_isTry_1
theorem dksX1_isTry_0 : cX1_isTry.data.toList.drop 0 = dktX1_isTry_0 := by decide +kernel
theorem dksX1_isTry_1 : cX1_isTry.data.toList.drop 24 = dktX1_isTry_1 := dk_seg dksX1_isTry_0 24 rfl rfl
theorem dX1_isTry_0 : decode cX1_isTry 0 = .ok (.aload_n 0, 1) := dk_42 (dk_at dksX1_isTry_0 0 rfl rfl)
theorem dX1_isTry_1 : decode cX1_isTry 1 = .ok (.getfield 85, 3) := dk_180 0 85 (dk_at dksX1_isTry_0 1 rfl rfl)
theorem dX1_isTry_4 : decode cX1_isTry 4 = .ok (.getfield 149, 3) := dk_180 0 149 (dk_at dksX1_isTry_0 4 rfl rfl)
theorem dX1_isTry_7 : decode cX1_isTry 7 = .ok (.ifCond .le 17, 3) := dk_158 0 17 (dk_at dksX1_isTry_0 7 rfl rfl)
theorem dX1_isTry_10 : decode cX1_isTry 10 = .ok (.aload_n 0, 1) := dk_42 (dk_at dksX1_isTry_0 10 rfl rfl)
theorem dX1_isTry_11 : decode cX1_isTry 11 = .ok (.getfield 89, 3) := dk_180 0 89 (dk_at dksX1_isTry_0 11 rfl rfl)
theorem dX1_isTry_14 : decode cX1_isTry 14 = .ok (.getfield 149, 3) := dk_180 0 149 (dk_at dksX1_isTry_0 14 rfl rfl)
theorem dX1_isTry_17 : decode cX1_isTry 17 = .ok (.ifCond .le 7, 3) := dk_158 0 7 (dk_at dksX1_isTry_0 17 rfl rfl)
theorem dX1_isTry_20 : decode cX1_isTry 20 = .ok (.iconst 1, 1) := dk_4 (dk_at dksX1_isTry_0 20 rfl rfl)
theorem dX1_isTry_21 : decode cX1_isTry 21 = .ok (.goto 4, 3) := dk_167 0 4 (dk_at dksX1_isTry_0 21 rfl rfl)
theorem dX1_isTry_24 : decode cX1_isTry 24 = .ok (.iconst 0, 1) := dk_3 (dk_at dksX1_isTry_1 0 rfl rfl)
theorem dX1_isTry_25 : decode cX1_isTry 25 = .ok (.ireturn, 1) := dk_172 (dk_at dksX1_isTry_1 1 rfl rfl)
abbrev cX1_waysTo : ByteArray := prog_1_method_43_code
def yX1_waysTo : MethodName := ⟨RX1, "waysTo", "(III)I"⟩
def dkwX1_waysTo_2 : List UInt8 := [27, 182, 1, 56, 100, 182, 1, 59, 42, 27, 4, 96, 28, 29, 182, 1, 59, 96, 172]
abbrev dktX1_waysTo_2 : List UInt8 := dkwX1_waysTo_2 ++ []
def dkwX1_waysTo_1 : List UInt8 := [180, 0, 89, 180, 0, 149, 96, 27, 100, 28, 162, 0, 5, 3, 172, 42, 27, 4, 96, 28, 4, 100, 29, 42]
abbrev dktX1_waysTo_1 : List UInt8 := dkwX1_waysTo_1 ++ dktX1_waysTo_2
def dkwX1_waysTo_0 : List UInt8 := [28, 154, 0, 13, 29, 157, 0, 7, 4, 167, 0, 4, 3, 172, 42, 180, 0, 85, 180, 0, 149, 42]
abbrev dktX1_waysTo_0 : List UInt8 := dkwX1_waysTo_0 ++ dktX1_waysTo_1
theorem dksX1_waysTo_0 : cX1_waysTo.data.toList.drop 0 = dktX1_waysTo_0 := by decide +kernel
theorem dksX1_waysTo_1 : cX1_waysTo.data.toList.drop 22 = dktX1_waysTo_1 := dk_seg dksX1_waysTo_0 22 rfl rfl
theorem dksX1_waysTo_2 : cX1_waysTo.data.toList.drop 46 = dktX1_waysTo_2 := dk_seg dksX1_waysTo_1 24 rfl rfl
theorem dX1_waysTo_0 : decode cX1_waysTo 0 = .ok (.iload_n 2, 1) := dk_28 (dk_at dksX1_waysTo_0 0 rfl rfl)
theorem dX1_waysTo_1 : decode cX1_waysTo 1 = .ok (.ifCond .ne 13, 3) := dk_154 0 13 (dk_at dksX1_waysTo_0 1 rfl rfl)
theorem dX1_waysTo_4 : decode cX1_waysTo 4 = .ok (.iload_n 3, 1) := dk_29 (dk_at dksX1_waysTo_0 4 rfl rfl)
theorem dX1_waysTo_5 : decode cX1_waysTo 5 = .ok (.ifCond .gt 7, 3) := dk_157 0 7 (dk_at dksX1_waysTo_0 5 rfl rfl)
theorem dX1_waysTo_8 : decode cX1_waysTo 8 = .ok (.iconst 1, 1) := dk_4 (dk_at dksX1_waysTo_0 8 rfl rfl)
theorem dX1_waysTo_9 : decode cX1_waysTo 9 = .ok (.goto 4, 3) := dk_167 0 4 (dk_at dksX1_waysTo_0 9 rfl rfl)
theorem dX1_waysTo_12 : decode cX1_waysTo 12 = .ok (.iconst 0, 1) := dk_3 (dk_at dksX1_waysTo_0 12 rfl rfl)
theorem dX1_waysTo_13 : decode cX1_waysTo 13 = .ok (.ireturn, 1) := dk_172 (dk_at dksX1_waysTo_0 13 rfl rfl)
theorem dX1_waysTo_14 : decode cX1_waysTo 14 = .ok (.aload_n 0, 1) := dk_42 (dk_at dksX1_waysTo_0 14 rfl rfl)
theorem dX1_waysTo_15 : decode cX1_waysTo 15 = .ok (.getfield 85, 3) := dk_180 0 85 (dk_at dksX1_waysTo_0 15 rfl rfl)
theorem dX1_waysTo_18 : decode cX1_waysTo 18 = .ok (.getfield 149, 3) := dk_180 0 149 (dk_at dksX1_waysTo_0 18 rfl rfl)
theorem dX1_waysTo_21 : decode cX1_waysTo 21 = .ok (.aload_n 0, 1) := dk_42 (dk_at dksX1_waysTo_0 21 rfl rfl)
theorem dX1_waysTo_22 : decode cX1_waysTo 22 = .ok (.getfield 89, 3) := dk_180 0 89 (dk_at dksX1_waysTo_1 0 rfl rfl)
theorem dX1_waysTo_25 : decode cX1_waysTo 25 = .ok (.getfield 149, 3) := dk_180 0 149 (dk_at dksX1_waysTo_1 3 rfl rfl)
theorem dX1_waysTo_28 : decode cX1_waysTo 28 = .ok (.iadd, 1) := dk_96 (dk_at dksX1_waysTo_1 6 rfl rfl)
theorem dX1_waysTo_29 : decode cX1_waysTo 29 = .ok (.iload_n 1, 1) := dk_27 (dk_at dksX1_waysTo_1 7 rfl rfl)
theorem dX1_waysTo_30 : decode cX1_waysTo 30 = .ok (.isub, 1) := dk_100 (dk_at dksX1_waysTo_1 8 rfl rfl)
theorem dX1_waysTo_31 : decode cX1_waysTo 31 = .ok (.iload_n 2, 1) := dk_28 (dk_at dksX1_waysTo_1 9 rfl rfl)
theorem dX1_waysTo_32 : decode cX1_waysTo 32 = .ok (.if_icmp .ge 5, 3) := dk_162 0 5 (dk_at dksX1_waysTo_1 10 rfl rfl)
theorem dX1_waysTo_35 : decode cX1_waysTo 35 = .ok (.iconst 0, 1) := dk_3 (dk_at dksX1_waysTo_1 13 rfl rfl)
theorem dX1_waysTo_36 : decode cX1_waysTo 36 = .ok (.ireturn, 1) := dk_172 (dk_at dksX1_waysTo_1 14 rfl rfl)
theorem dX1_waysTo_37 : decode cX1_waysTo 37 = .ok (.aload_n 0, 1) := dk_42 (dk_at dksX1_waysTo_1 15 rfl rfl)
theorem dX1_waysTo_38 : decode cX1_waysTo 38 = .ok (.iload_n 1, 1) := dk_27 (dk_at dksX1_waysTo_1 16 rfl rfl)
theorem dX1_waysTo_39 : decode cX1_waysTo 39 = .ok (.iconst 1, 1) := dk_4 (dk_at dksX1_waysTo_1 17 rfl rfl)
theorem dX1_waysTo_40 : decode cX1_waysTo 40 = .ok (.iadd, 1) := dk_96 (dk_at dksX1_waysTo_1 18 rfl rfl)
theorem dX1_waysTo_41 : decode cX1_waysTo 41 = .ok (.iload_n 2, 1) := dk_28 (dk_at dksX1_waysTo_1 19 rfl rfl)
theorem dX1_waysTo_42 : decode cX1_waysTo 42 = .ok (.iconst 1, 1) := dk_4 (dk_at dksX1_waysTo_1 20 rfl rfl)
theorem dX1_waysTo_43 : decode cX1_waysTo 43 = .ok (.isub, 1) := dk_100 (dk_at dksX1_waysTo_1 21 rfl rfl)
theorem dX1_waysTo_44 : decode cX1_waysTo 44 = .ok (.iload_n 3, 1) := dk_29 (dk_at dksX1_waysTo_1 22 rfl rfl)
theorem dX1_waysTo_45 : decode cX1_waysTo 45 = .ok (.aload_n 0, 1) := dk_42 (dk_at dksX1_waysTo_1 23 rfl rfl)
theorem dX1_waysTo_46 : decode cX1_waysTo 46 = .ok (.iload_n 1, 1) := dk_27 (dk_at dksX1_waysTo_2 0 rfl rfl)
theorem dX1_waysTo_47 : decode cX1_waysTo 47 = .ok (.invokevirtual 312, 3) := dk_182 1 56 (dk_at dksX1_waysTo_2 1 rfl rfl)
theorem dX1_waysTo_50 : decode cX1_waysTo 50 = .ok (.isub, 1) := dk_100 (dk_at dksX1_waysTo_2 4 rfl rfl)
theorem dX1_waysTo_51 : decode cX1_waysTo 51 = .ok (.invokevirtual 315, 3) := dk_182 1 59 (dk_at dksX1_waysTo_2 5 rfl rfl)
theorem dX1_waysTo_54 : decode cX1_waysTo 54 = .ok (.aload_n 0, 1) := dk_42 (dk_at dksX1_waysTo_2 8 rfl rfl)
theorem dX1_waysTo_55 : decode cX1_waysTo 55 = .ok (.iload_n 1, 1) := dk_27 (dk_at dksX1_waysTo_2 9 rfl rfl)
theorem dX1_waysTo_56 : decode cX1_waysTo 56 = .ok (.iconst 1, 1) := dk_4 (dk_at dksX1_waysTo_2 10 rfl rfl)
theorem dX1_waysTo_57 : decode cX1_waysTo 57 = .ok (.iadd, 1) := dk_96 (dk_at dksX1_waysTo_2 11 rfl rfl)
theorem dX1_waysTo_58 : decode cX1_waysTo 58 = .ok (.iload_n 2, 1) := dk_28 (dk_at dksX1_waysTo_2 12 rfl rfl)
theorem dX1_waysTo_59 : decode cX1_waysTo 59 = .ok (.iload_n 3, 1) := dk_29 (dk_at dksX1_waysTo_2 13 rfl rfl)
theorem dX1_waysTo_60 : decode cX1_waysTo 60 = .ok (.invokevirtual 315, 3) := dk_182 1 59 (dk_at dksX1_waysTo_2 14 rfl rfl)
theorem dX1_waysTo_63 : decode cX1_waysTo 63 = .ok (.iadd, 1) := dk_96 (dk_at dksX1_waysTo_2 17 rfl rfl)
theorem dX1_waysTo_64 : decode cX1_waysTo 64 = .ok (.ireturn, 1) := dk_172 (dk_at dksX1_waysTo_2 18 rfl rfl)
abbrev cX1_numberAt : ByteArray := prog_1_method_42_code
def yX1_numberAt : MethodName := ⟨RX1, "numberAt", "(I)I"⟩
def dkwX1_numberAt_1 : List UInt8 := [180, 0, 89, 27, 42, 180, 0, 85, 180, 0, 149, 100, 182, 1, 53, 172]
abbrev dktX1_numberAt_1 : List UInt8 := dkwX1_numberAt_1 ++ []
def dkwX1_numberAt_0 : List UInt8 := [27, 42, 180, 0, 85, 180, 0, 149, 162, 0, 14, 42, 180, 0, 85, 27, 182, 1, 53, 167, 0, 19, 42]
abbrev dktX1_numberAt_0 : List UInt8 := dkwX1_numberAt_0 ++ dktX1_numberAt_1
theorem dksX1_numberAt_0 : cX1_numberAt.data.toList.drop 0 = dktX1_numberAt_0 := by decide +kernel
theorem dksX1_numberAt_1 : cX1_numberAt.data.toList.drop 23 = dktX1_numberAt_1 := dk_seg dksX1_numberAt_0 23 rfl rfl
theorem dX1_numberAt_0 : decode cX1_numberAt 0 = .ok (.iload_n 1, 1) := dk_27 (dk_at dksX1_numberAt_0 0 rfl rfl)
theorem dX1_numberAt_1 : decode cX1_numberAt 1 = .ok (.aload_n 0, 1) := dk_42 (dk_at dksX1_numberAt_0 1 rfl rfl)
theorem dX1_numberAt_2 : decode cX1_numberAt 2 = .ok (.getfield 85, 3) := dk_180 0 85 (dk_at dksX1_numberAt_0 2 rfl rfl)
theorem dX1_numberAt_5 : decode cX1_numberAt 5 = .ok (.getfield 149, 3) := dk_180 0 149 (dk_at dksX1_numberAt_0 5 rfl rfl)
theorem dX1_numberAt_8 : decode cX1_numberAt 8 = .ok (.if_icmp .ge 14, 3) := dk_162 0 14 (dk_at dksX1_numberAt_0 8 rfl rfl)
theorem dX1_numberAt_11 : decode cX1_numberAt 11 = .ok (.aload_n 0, 1) := dk_42 (dk_at dksX1_numberAt_0 11 rfl rfl)
theorem dX1_numberAt_12 : decode cX1_numberAt 12 = .ok (.getfield 85, 3) := dk_180 0 85 (dk_at dksX1_numberAt_0 12 rfl rfl)
theorem dX1_numberAt_15 : decode cX1_numberAt 15 = .ok (.iload_n 1, 1) := dk_27 (dk_at dksX1_numberAt_0 15 rfl rfl)
theorem dX1_numberAt_16 : decode cX1_numberAt 16 = .ok (.invokevirtual 309, 3) := dk_182 1 53 (dk_at dksX1_numberAt_0 16 rfl rfl)
theorem dX1_numberAt_19 : decode cX1_numberAt 19 = .ok (.goto 19, 3) := dk_167 0 19 (dk_at dksX1_numberAt_0 19 rfl rfl)
theorem dX1_numberAt_22 : decode cX1_numberAt 22 = .ok (.aload_n 0, 1) := dk_42 (dk_at dksX1_numberAt_0 22 rfl rfl)
theorem dX1_numberAt_23 : decode cX1_numberAt 23 = .ok (.getfield 89, 3) := dk_180 0 89 (dk_at dksX1_numberAt_1 0 rfl rfl)
theorem dX1_numberAt_26 : decode cX1_numberAt 26 = .ok (.iload_n 1, 1) := dk_27 (dk_at dksX1_numberAt_1 3 rfl rfl)
theorem dX1_numberAt_27 : decode cX1_numberAt 27 = .ok (.aload_n 0, 1) := dk_42 (dk_at dksX1_numberAt_1 4 rfl rfl)
theorem dX1_numberAt_28 : decode cX1_numberAt 28 = .ok (.getfield 85, 3) := dk_180 0 85 (dk_at dksX1_numberAt_1 5 rfl rfl)
theorem dX1_numberAt_31 : decode cX1_numberAt 31 = .ok (.getfield 149, 3) := dk_180 0 149 (dk_at dksX1_numberAt_1 8 rfl rfl)
theorem dX1_numberAt_34 : decode cX1_numberAt 34 = .ok (.isub, 1) := dk_100 (dk_at dksX1_numberAt_1 11 rfl rfl)
theorem dX1_numberAt_35 : decode cX1_numberAt 35 = .ok (.invokevirtual 309, 3) := dk_182 1 53 (dk_at dksX1_numberAt_1 12 rfl rfl)
theorem dX1_numberAt_38 : decode cX1_numberAt 38 = .ok (.ireturn, 1) := dk_172 (dk_at dksX1_numberAt_1 15 rfl rfl)
abbrev cX1_splits : ByteArray := prog_1_method_46_code
def yX1_splits : MethodName := ⟨RX1, "splits", "()I"⟩
def dkwX1_splits_1 : List UInt8 := [167, 0, 8, 42, 8, 182, 0, 116, 172]
abbrev dktX1_splits_1 : List UInt8 := dkwX1_splits_1 ++ []
def dkwX1_splits_0 : List UInt8 := [42, 182, 0, 102, 42, 182, 1, 62, 153, 0, 19, 42, 3, 42, 180, 0, 89, 180, 0, 149, 3, 182, 1, 59]
abbrev dktX1_splits_0 : List UInt8 := dkwX1_splits_0 ++ dktX1_splits_1
theorem dksX1_splits_0 : cX1_splits.data.toList.drop 0 = dktX1_splits_0 := by decide +kernel
theorem dksX1_splits_1 : cX1_splits.data.toList.drop 24 = dktX1_splits_1 := dk_seg dksX1_splits_0 24 rfl rfl
theorem dX1_splits_0 : decode cX1_splits 0 = .ok (.aload_n 0, 1) := dk_42 (dk_at dksX1_splits_0 0 rfl rfl)
theorem dX1_splits_1 : decode cX1_splits 1 = .ok (.invokevirtual 102, 3) := dk_182 0 102 (dk_at dksX1_splits_0 1 rfl rfl)
theorem dX1_splits_4 : decode cX1_splits 4 = .ok (.aload_n 0, 1) := dk_42 (dk_at dksX1_splits_0 4 rfl rfl)
theorem dX1_splits_5 : decode cX1_splits 5 = .ok (.invokevirtual 318, 3) := dk_182 1 62 (dk_at dksX1_splits_0 5 rfl rfl)
theorem dX1_splits_8 : decode cX1_splits 8 = .ok (.ifCond .eq 19, 3) := dk_153 0 19 (dk_at dksX1_splits_0 8 rfl rfl)
theorem dX1_splits_11 : decode cX1_splits 11 = .ok (.aload_n 0, 1) := dk_42 (dk_at dksX1_splits_0 11 rfl rfl)
theorem dX1_splits_12 : decode cX1_splits 12 = .ok (.iconst 0, 1) := dk_3 (dk_at dksX1_splits_0 12 rfl rfl)
theorem dX1_splits_13 : decode cX1_splits 13 = .ok (.aload_n 0, 1) := dk_42 (dk_at dksX1_splits_0 13 rfl rfl)
theorem dX1_splits_14 : decode cX1_splits 14 = .ok (.getfield 89, 3) := dk_180 0 89 (dk_at dksX1_splits_0 14 rfl rfl)
theorem dX1_splits_17 : decode cX1_splits 17 = .ok (.getfield 149, 3) := dk_180 0 149 (dk_at dksX1_splits_0 17 rfl rfl)
theorem dX1_splits_20 : decode cX1_splits 20 = .ok (.iconst 0, 1) := dk_3 (dk_at dksX1_splits_0 20 rfl rfl)
theorem dX1_splits_21 : decode cX1_splits 21 = .ok (.invokevirtual 315, 3) := dk_182 1 59 (dk_at dksX1_splits_0 21 rfl rfl)
theorem dX1_splits_24 : decode cX1_splits 24 = .ok (.goto 8, 3) := dk_167 0 8 (dk_at dksX1_splits_1 0 rfl rfl)
theorem dX1_splits_27 : decode cX1_splits 27 = .ok (.aload_n 0, 1) := dk_42 (dk_at dksX1_splits_1 3 rfl rfl)
theorem dX1_splits_28 : decode cX1_splits 28 = .ok (.iconst 5, 1) := dk_8 (dk_at dksX1_splits_1 4 rfl rfl)
theorem dX1_splits_29 : decode cX1_splits 29 = .ok (.invokevirtual 116, 3) := dk_182 0 116 (dk_at dksX1_splits_1 5 rfl rfl)
theorem dX1_splits_32 : decode cX1_splits 32 = .ok (.ireturn, 1) := dk_172 (dk_at dksX1_splits_1 8 rfl rfl)
abbrev cX1_clear : ByteArray := prog_1_method_47_code
def yX1_clear : MethodName := ⟨RX1, "clear", "()I"⟩
def dkwX1_clear_1 : List UInt8 := [42, 180, 0, 89, 3, 181, 0, 149, 27, 172]
abbrev dktX1_clear_1 : List UInt8 := dkwX1_clear_1 ++ []
def dkwX1_clear_0 : List UInt8 := [42, 180, 0, 85, 180, 0, 149, 42, 180, 0, 89, 180, 0, 149, 96, 60, 42, 180, 0, 85, 3, 181, 0, 149]
abbrev dktX1_clear_0 : List UInt8 := dkwX1_clear_0 ++ dktX1_clear_1
theorem dksX1_clear_0 : cX1_clear.data.toList.drop 0 = dktX1_clear_0 := by decide +kernel
theorem dksX1_clear_1 : cX1_clear.data.toList.drop 24 = dktX1_clear_1 := dk_seg dksX1_clear_0 24 rfl rfl
theorem dX1_clear_0 : decode cX1_clear 0 = .ok (.aload_n 0, 1) := dk_42 (dk_at dksX1_clear_0 0 rfl rfl)
theorem dX1_clear_1 : decode cX1_clear 1 = .ok (.getfield 85, 3) := dk_180 0 85 (dk_at dksX1_clear_0 1 rfl rfl)
theorem dX1_clear_4 : decode cX1_clear 4 = .ok (.getfield 149, 3) := dk_180 0 149 (dk_at dksX1_clear_0 4 rfl rfl)
theorem dX1_clear_7 : decode cX1_clear 7 = .ok (.aload_n 0, 1) := dk_42 (dk_at dksX1_clear_0 7 rfl rfl)
theorem dX1_clear_8 : decode cX1_clear 8 = .ok (.getfield 89, 3) := dk_180 0 89 (dk_at dksX1_clear_0 8 rfl rfl)
theorem dX1_clear_11 : decode cX1_clear 11 = .ok (.getfield 149, 3) := dk_180 0 149 (dk_at dksX1_clear_0 11 rfl rfl)
theorem dX1_clear_14 : decode cX1_clear 14 = .ok (.iadd, 1) := dk_96 (dk_at dksX1_clear_0 14 rfl rfl)
theorem dX1_clear_15 : decode cX1_clear 15 = .ok (.istore_n 1, 1) := dk_60 (dk_at dksX1_clear_0 15 rfl rfl)
theorem dX1_clear_16 : decode cX1_clear 16 = .ok (.aload_n 0, 1) := dk_42 (dk_at dksX1_clear_0 16 rfl rfl)
theorem dX1_clear_17 : decode cX1_clear 17 = .ok (.getfield 85, 3) := dk_180 0 85 (dk_at dksX1_clear_0 17 rfl rfl)
theorem dX1_clear_20 : decode cX1_clear 20 = .ok (.iconst 0, 1) := dk_3 (dk_at dksX1_clear_0 20 rfl rfl)
theorem dX1_clear_21 : decode cX1_clear 21 = .ok (.putfield 149, 3) := dk_181 0 149 (dk_at dksX1_clear_0 21 rfl rfl)
theorem dX1_clear_24 : decode cX1_clear 24 = .ok (.aload_n 0, 1) := dk_42 (dk_at dksX1_clear_1 0 rfl rfl)
theorem dX1_clear_25 : decode cX1_clear 25 = .ok (.getfield 89, 3) := dk_180 0 89 (dk_at dksX1_clear_1 1 rfl rfl)
theorem dX1_clear_28 : decode cX1_clear 28 = .ok (.iconst 0, 1) := dk_3 (dk_at dksX1_clear_1 4 rfl rfl)
theorem dX1_clear_29 : decode cX1_clear 29 = .ok (.putfield 149, 3) := dk_181 0 149 (dk_at dksX1_clear_1 5 rfl rfl)
theorem dX1_clear_32 : decode cX1_clear 32 = .ok (.iload_n 1, 1) := dk_27 (dk_at dksX1_clear_1 8 rfl rfl)
theorem dX1_clear_33 : decode cX1_clear 33 = .ok (.ireturn, 1) := dk_172 (dk_at dksX1_clear_1 9 rfl rfl)
abbrev cX1_marks : ByteArray := prog_1_method_48_code
def yX1_marks : MethodName := ⟨RX1, "marks", "(IIIIII)I"⟩
def dkwX1_marks_7 : List UInt8 := [172]
abbrev dktX1_marks_7 : List UInt8 := dkwX1_marks_7 ++ []
def dkwX1_marks_6 : List UInt8 := [167, 0, 7, 42, 180, 0, 95, 182, 0, 193, 132, 7, 1, 167, 255, 213, 42, 180, 0, 95, 180, 1, 73, 136]
abbrev dktX1_marks_6 : List UInt8 := dkwX1_marks_6 ++ dktX1_marks_7
def dkwX1_marks_5 : List UInt8 := [180, 0, 33, 42, 180, 0, 127, 42, 180, 0, 46, 21, 7, 50, 21, 7, 21, 5, 162, 0, 7, 1]
abbrev dktX1_marks_5 : List UInt8 := dkwX1_marks_5 ++ dktX1_marks_6
def dkwX1_marks_4 : List UInt8 := [182, 0, 249, 42, 180, 0, 95, 21, 4, 182, 1, 70, 3, 54, 7, 21, 7, 21, 6, 163, 0, 42, 42]
abbrev dktX1_marks_4 : List UInt8 := dkwX1_marks_4 ++ dktX1_marks_5
def dkwX1_marks_3 : List UInt8 := [21, 5, 162, 0, 9, 42, 5, 182, 0, 116, 172, 42, 180, 0, 33, 42, 180, 0, 127, 27, 28, 29]
abbrev dktX1_marks_3 : List UInt8 := dkwX1_marks_3 ++ dktX1_marks_4
def dkwX1_marks_2 : List UInt8 := [184, 0, 112, 154, 0, 9, 42, 4, 182, 0, 116, 172, 42, 27, 28, 29, 182, 1, 14, 153, 0, 10, 21, 6]
abbrev dktX1_marks_2 : List UInt8 := dkwX1_marks_2 ++ dktX1_marks_3
def dkwX1_marks_1 : List UInt8 := [184, 0, 112, 153, 0, 25, 21, 5, 3, 16, 11, 184, 0, 112, 153, 0, 14, 21, 6, 3, 16, 11]
abbrev dktX1_marks_1 : List UInt8 := dkwX1_marks_1 ++ dktX1_marks_2
def dkwX1_marks_0 : List UInt8 := [42, 182, 0, 102, 42, 180, 0, 127, 198, 0, 43, 21, 4, 3, 42, 180, 0, 127, 180, 0, 155, 4, 100]
abbrev dktX1_marks_0 : List UInt8 := dkwX1_marks_0 ++ dktX1_marks_1
theorem dksX1_marks_0 : cX1_marks.data.toList.drop 0 = dktX1_marks_0 := by decide +kernel
theorem dksX1_marks_1 : cX1_marks.data.toList.drop 23 = dktX1_marks_1 := dk_seg dksX1_marks_0 23 rfl rfl
theorem dksX1_marks_2 : cX1_marks.data.toList.drop 45 = dktX1_marks_2 := dk_seg dksX1_marks_1 22 rfl rfl
theorem dksX1_marks_3 : cX1_marks.data.toList.drop 69 = dktX1_marks_3 := dk_seg dksX1_marks_2 24 rfl rfl
theorem dksX1_marks_4 : cX1_marks.data.toList.drop 91 = dktX1_marks_4 := dk_seg dksX1_marks_3 22 rfl rfl
theorem dksX1_marks_5 : cX1_marks.data.toList.drop 114 = dktX1_marks_5 := dk_seg dksX1_marks_4 23 rfl rfl
theorem dksX1_marks_6 : cX1_marks.data.toList.drop 136 = dktX1_marks_6 := dk_seg dksX1_marks_5 22 rfl rfl
theorem dksX1_marks_7 : cX1_marks.data.toList.drop 160 = dktX1_marks_7 := dk_seg dksX1_marks_6 24 rfl rfl
theorem dX1_marks_0 : decode cX1_marks 0 = .ok (.aload_n 0, 1) := dk_42 (dk_at dksX1_marks_0 0 rfl rfl)
theorem dX1_marks_1 : decode cX1_marks 1 = .ok (.invokevirtual 102, 3) := dk_182 0 102 (dk_at dksX1_marks_0 1 rfl rfl)
theorem dX1_marks_4 : decode cX1_marks 4 = .ok (.aload_n 0, 1) := dk_42 (dk_at dksX1_marks_0 4 rfl rfl)
theorem dX1_marks_5 : decode cX1_marks 5 = .ok (.getfield 127, 3) := dk_180 0 127 (dk_at dksX1_marks_0 5 rfl rfl)
theorem dX1_marks_8 : decode cX1_marks 8 = .ok (.ifnull 43, 3) := dk_198 0 43 (dk_at dksX1_marks_0 8 rfl rfl)
theorem dX1_marks_11 : decode cX1_marks 11 = .ok (.iload 4, 2) := dk_21 4 (dk_at dksX1_marks_0 11 rfl rfl)
theorem dX1_marks_13 : decode cX1_marks 13 = .ok (.iconst 0, 1) := dk_3 (dk_at dksX1_marks_0 13 rfl rfl)
theorem dX1_marks_14 : decode cX1_marks 14 = .ok (.aload_n 0, 1) := dk_42 (dk_at dksX1_marks_0 14 rfl rfl)
theorem dX1_marks_15 : decode cX1_marks 15 = .ok (.getfield 127, 3) := dk_180 0 127 (dk_at dksX1_marks_0 15 rfl rfl)
theorem dX1_marks_18 : decode cX1_marks 18 = .ok (.getfield 155, 3) := dk_180 0 155 (dk_at dksX1_marks_0 18 rfl rfl)
theorem dX1_marks_21 : decode cX1_marks 21 = .ok (.iconst 1, 1) := dk_4 (dk_at dksX1_marks_0 21 rfl rfl)
theorem dX1_marks_22 : decode cX1_marks 22 = .ok (.isub, 1) := dk_100 (dk_at dksX1_marks_0 22 rfl rfl)
theorem dX1_marks_23 : decode cX1_marks 23 = .ok (.invokestatic 112, 3) := dk_184 0 112 (dk_at dksX1_marks_1 0 rfl rfl)
theorem dX1_marks_26 : decode cX1_marks 26 = .ok (.ifCond .eq 25, 3) := dk_153 0 25 (dk_at dksX1_marks_1 3 rfl rfl)
theorem dX1_marks_29 : decode cX1_marks 29 = .ok (.iload 5, 2) := dk_21 5 (dk_at dksX1_marks_1 6 rfl rfl)
theorem dX1_marks_31 : decode cX1_marks 31 = .ok (.iconst 0, 1) := dk_3 (dk_at dksX1_marks_1 8 rfl rfl)
theorem dX1_marks_32 : decode cX1_marks 32 = .ok (.bipush 11, 2) := dk_16 11 (dk_at dksX1_marks_1 9 rfl rfl)
theorem dX1_marks_34 : decode cX1_marks 34 = .ok (.invokestatic 112, 3) := dk_184 0 112 (dk_at dksX1_marks_1 11 rfl rfl)
theorem dX1_marks_37 : decode cX1_marks 37 = .ok (.ifCond .eq 14, 3) := dk_153 0 14 (dk_at dksX1_marks_1 14 rfl rfl)
theorem dX1_marks_40 : decode cX1_marks 40 = .ok (.iload 6, 2) := dk_21 6 (dk_at dksX1_marks_1 17 rfl rfl)
theorem dX1_marks_42 : decode cX1_marks 42 = .ok (.iconst 0, 1) := dk_3 (dk_at dksX1_marks_1 19 rfl rfl)
theorem dX1_marks_43 : decode cX1_marks 43 = .ok (.bipush 11, 2) := dk_16 11 (dk_at dksX1_marks_1 20 rfl rfl)
theorem dX1_marks_45 : decode cX1_marks 45 = .ok (.invokestatic 112, 3) := dk_184 0 112 (dk_at dksX1_marks_2 0 rfl rfl)
theorem dX1_marks_48 : decode cX1_marks 48 = .ok (.ifCond .ne 9, 3) := dk_154 0 9 (dk_at dksX1_marks_2 3 rfl rfl)
theorem dX1_marks_51 : decode cX1_marks 51 = .ok (.aload_n 0, 1) := dk_42 (dk_at dksX1_marks_2 6 rfl rfl)
theorem dX1_marks_52 : decode cX1_marks 52 = .ok (.iconst 1, 1) := dk_4 (dk_at dksX1_marks_2 7 rfl rfl)
theorem dX1_marks_53 : decode cX1_marks 53 = .ok (.invokevirtual 116, 3) := dk_182 0 116 (dk_at dksX1_marks_2 8 rfl rfl)
theorem dX1_marks_56 : decode cX1_marks 56 = .ok (.ireturn, 1) := dk_172 (dk_at dksX1_marks_2 11 rfl rfl)
theorem dX1_marks_57 : decode cX1_marks 57 = .ok (.aload_n 0, 1) := dk_42 (dk_at dksX1_marks_2 12 rfl rfl)
theorem dX1_marks_58 : decode cX1_marks 58 = .ok (.iload_n 1, 1) := dk_27 (dk_at dksX1_marks_2 13 rfl rfl)
theorem dX1_marks_59 : decode cX1_marks 59 = .ok (.iload_n 2, 1) := dk_28 (dk_at dksX1_marks_2 14 rfl rfl)
theorem dX1_marks_60 : decode cX1_marks 60 = .ok (.iload_n 3, 1) := dk_29 (dk_at dksX1_marks_2 15 rfl rfl)
theorem dX1_marks_61 : decode cX1_marks 61 = .ok (.invokevirtual 270, 3) := dk_182 1 14 (dk_at dksX1_marks_2 16 rfl rfl)
theorem dX1_marks_64 : decode cX1_marks 64 = .ok (.ifCond .eq 10, 3) := dk_153 0 10 (dk_at dksX1_marks_2 19 rfl rfl)
theorem dX1_marks_67 : decode cX1_marks 67 = .ok (.iload 6, 2) := dk_21 6 (dk_at dksX1_marks_2 22 rfl rfl)
theorem dX1_marks_69 : decode cX1_marks 69 = .ok (.iload 5, 2) := dk_21 5 (dk_at dksX1_marks_3 0 rfl rfl)
theorem dX1_marks_71 : decode cX1_marks 71 = .ok (.if_icmp .ge 9, 3) := dk_162 0 9 (dk_at dksX1_marks_3 2 rfl rfl)
theorem dX1_marks_74 : decode cX1_marks 74 = .ok (.aload_n 0, 1) := dk_42 (dk_at dksX1_marks_3 5 rfl rfl)
theorem dX1_marks_75 : decode cX1_marks 75 = .ok (.iconst 2, 1) := dk_5 (dk_at dksX1_marks_3 6 rfl rfl)
theorem dX1_marks_76 : decode cX1_marks 76 = .ok (.invokevirtual 116, 3) := dk_182 0 116 (dk_at dksX1_marks_3 7 rfl rfl)
theorem dX1_marks_79 : decode cX1_marks 79 = .ok (.ireturn, 1) := dk_172 (dk_at dksX1_marks_3 10 rfl rfl)
theorem dX1_marks_80 : decode cX1_marks 80 = .ok (.aload_n 0, 1) := dk_42 (dk_at dksX1_marks_3 11 rfl rfl)
theorem dX1_marks_81 : decode cX1_marks 81 = .ok (.getfield 33, 3) := dk_180 0 33 (dk_at dksX1_marks_3 12 rfl rfl)
theorem dX1_marks_84 : decode cX1_marks 84 = .ok (.aload_n 0, 1) := dk_42 (dk_at dksX1_marks_3 15 rfl rfl)
theorem dX1_marks_85 : decode cX1_marks 85 = .ok (.getfield 127, 3) := dk_180 0 127 (dk_at dksX1_marks_3 16 rfl rfl)
theorem dX1_marks_88 : decode cX1_marks 88 = .ok (.iload_n 1, 1) := dk_27 (dk_at dksX1_marks_3 19 rfl rfl)
theorem dX1_marks_89 : decode cX1_marks 89 = .ok (.iload_n 2, 1) := dk_28 (dk_at dksX1_marks_3 20 rfl rfl)
theorem dX1_marks_90 : decode cX1_marks 90 = .ok (.iload_n 3, 1) := dk_29 (dk_at dksX1_marks_3 21 rfl rfl)
theorem dX1_marks_91 : decode cX1_marks 91 = .ok (.invokevirtual 249, 3) := dk_182 0 249 (dk_at dksX1_marks_4 0 rfl rfl)
theorem dX1_marks_94 : decode cX1_marks 94 = .ok (.aload_n 0, 1) := dk_42 (dk_at dksX1_marks_4 3 rfl rfl)
theorem dX1_marks_95 : decode cX1_marks 95 = .ok (.getfield 95, 3) := dk_180 0 95 (dk_at dksX1_marks_4 4 rfl rfl)
theorem dX1_marks_98 : decode cX1_marks 98 = .ok (.iload 4, 2) := dk_21 4 (dk_at dksX1_marks_4 7 rfl rfl)
theorem dX1_marks_100 : decode cX1_marks 100 = .ok (.invokevirtual 326, 3) := dk_182 1 70 (dk_at dksX1_marks_4 9 rfl rfl)
theorem dX1_marks_103 : decode cX1_marks 103 = .ok (.iconst 0, 1) := dk_3 (dk_at dksX1_marks_4 12 rfl rfl)
theorem dX1_marks_104 : decode cX1_marks 104 = .ok (.istore 7, 2) := dk_54 7 (dk_at dksX1_marks_4 13 rfl rfl)
theorem dX1_marks_106 : decode cX1_marks 106 = .ok (.iload 7, 2) := dk_21 7 (dk_at dksX1_marks_4 15 rfl rfl)
theorem dX1_marks_108 : decode cX1_marks 108 = .ok (.iload 6, 2) := dk_21 6 (dk_at dksX1_marks_4 17 rfl rfl)
theorem dX1_marks_110 : decode cX1_marks 110 = .ok (.if_icmp .gt 42, 3) := dk_163 0 42 (dk_at dksX1_marks_4 19 rfl rfl)
theorem dX1_marks_113 : decode cX1_marks 113 = .ok (.aload_n 0, 1) := dk_42 (dk_at dksX1_marks_4 22 rfl rfl)
theorem dX1_marks_114 : decode cX1_marks 114 = .ok (.getfield 33, 3) := dk_180 0 33 (dk_at dksX1_marks_5 0 rfl rfl)
theorem dX1_marks_117 : decode cX1_marks 117 = .ok (.aload_n 0, 1) := dk_42 (dk_at dksX1_marks_5 3 rfl rfl)
theorem dX1_marks_118 : decode cX1_marks 118 = .ok (.getfield 127, 3) := dk_180 0 127 (dk_at dksX1_marks_5 4 rfl rfl)
theorem dX1_marks_121 : decode cX1_marks 121 = .ok (.aload_n 0, 1) := dk_42 (dk_at dksX1_marks_5 7 rfl rfl)
theorem dX1_marks_122 : decode cX1_marks 122 = .ok (.getfield 46, 3) := dk_180 0 46 (dk_at dksX1_marks_5 8 rfl rfl)
theorem dX1_marks_125 : decode cX1_marks 125 = .ok (.iload 7, 2) := dk_21 7 (dk_at dksX1_marks_5 11 rfl rfl)
theorem dX1_marks_127 : decode cX1_marks 127 = .ok (.aaload, 1) := dk_50 (dk_at dksX1_marks_5 13 rfl rfl)
theorem dX1_marks_128 : decode cX1_marks 128 = .ok (.iload 7, 2) := dk_21 7 (dk_at dksX1_marks_5 14 rfl rfl)
theorem dX1_marks_130 : decode cX1_marks 130 = .ok (.iload 5, 2) := dk_21 5 (dk_at dksX1_marks_5 16 rfl rfl)
theorem dX1_marks_132 : decode cX1_marks 132 = .ok (.if_icmp .ge 7, 3) := dk_162 0 7 (dk_at dksX1_marks_5 18 rfl rfl)
theorem dX1_marks_135 : decode cX1_marks 135 = .ok (.aconst_null, 1) := dk_1 (dk_at dksX1_marks_5 21 rfl rfl)
theorem dX1_marks_136 : decode cX1_marks 136 = .ok (.goto 7, 3) := dk_167 0 7 (dk_at dksX1_marks_6 0 rfl rfl)
theorem dX1_marks_139 : decode cX1_marks 139 = .ok (.aload_n 0, 1) := dk_42 (dk_at dksX1_marks_6 3 rfl rfl)
theorem dX1_marks_140 : decode cX1_marks 140 = .ok (.getfield 95, 3) := dk_180 0 95 (dk_at dksX1_marks_6 4 rfl rfl)
theorem dX1_marks_143 : decode cX1_marks 143 = .ok (.invokevirtual 193, 3) := dk_182 0 193 (dk_at dksX1_marks_6 7 rfl rfl)
theorem dX1_marks_146 : decode cX1_marks 146 = .ok (.iinc 7 1, 3) := dk_132 7 1 (dk_at dksX1_marks_6 10 rfl rfl)
theorem dX1_marks_149 : decode cX1_marks 149 = .ok (.goto (-43), 3) := dk_167 255 213 (dk_at dksX1_marks_6 13 rfl rfl)
theorem dX1_marks_152 : decode cX1_marks 152 = .ok (.aload_n 0, 1) := dk_42 (dk_at dksX1_marks_6 16 rfl rfl)
theorem dX1_marks_153 : decode cX1_marks 153 = .ok (.getfield 95, 3) := dk_180 0 95 (dk_at dksX1_marks_6 17 rfl rfl)
theorem dX1_marks_156 : decode cX1_marks 156 = .ok (.getfield 329, 3) := dk_180 1 73 (dk_at dksX1_marks_6 20 rfl rfl)
theorem dX1_marks_159 : decode cX1_marks 159 = .ok (.l2i, 1) := dk_136 (dk_at dksX1_marks_6 23 rfl rfl)
theorem dX1_marks_160 : decode cX1_marks 160 = .ok (.ireturn, 1) := dk_172 (dk_at dksX1_marks_7 0 rfl rfl)
abbrev cX1_size : ByteArray := prog_1_method_50_code
def yX1_size : MethodName := ⟨RX1, "size", "(I)I"⟩
def dkwX1_size_6 : List UInt8 := [42, 180, 0, 127, 180, 1, 99, 172, 42, 180, 0, 146, 172, 2, 172]
abbrev dktX1_size_6 : List UInt8 := dkwX1_size_6 ++ []
def dkwX1_size_5 : List UInt8 := [42, 180, 0, 127, 180, 1, 90, 172, 42, 180, 0, 127, 180, 1, 93, 172, 42, 180, 0, 127, 180, 1, 96, 172]
abbrev dktX1_size_5 : List UInt8 := dkwX1_size_5 ++ dktX1_size_6
def dkwX1_size_4 : List UInt8 := [42, 180, 0, 127, 180, 1, 81, 172, 42, 180, 0, 127, 180, 1, 84, 172, 42, 180, 0, 127, 180, 1, 87, 172]
abbrev dktX1_size_4 : List UInt8 := dkwX1_size_4 ++ dktX1_size_5
def dkwX1_size_3 : List UInt8 := [42, 180, 0, 127, 180, 0, 155, 172, 42, 180, 0, 127, 180, 0, 160, 172, 42, 180, 0, 127, 180, 1, 78, 172]
abbrev dktX1_size_3 : List UInt8 := dkwX1_size_3 ++ dktX1_size_4
def dkwX1_size_2 : List UInt8 := [170, 0, 0, 0, 142, 0, 0, 0, 0, 0, 0, 0, 10, 0, 0, 0, 57, 0, 0, 0, 65, 0, 0, 0, 73, 0, 0, 0, 81, 0, 0, 0, 89, 0, 0, 0, 97, 0, 0, 0, 105, 0, 0, 0, 113, 0, 0, 0, 121, 0, 0, 0, 129, 0, 0, 0, 137]
abbrev dktX1_size_2 : List UInt8 := dkwX1_size_2 ++ dktX1_size_3
def dkwX1_size_1 : List UInt8 := [184, 0, 112, 153, 0, 7, 3, 167, 0, 4, 2, 172, 27]
abbrev dktX1_size_1 : List UInt8 := dkwX1_size_1 ++ dktX1_size_2
def dkwX1_size_0 : List UInt8 := [27, 16, 11, 160, 0, 8, 42, 180, 0, 105, 172, 42, 180, 0, 127, 199, 0, 19, 27, 3, 16, 10]
abbrev dktX1_size_0 : List UInt8 := dkwX1_size_0 ++ dktX1_size_1
theorem dksX1_size_0 : cX1_size.data.toList.drop 0 = dktX1_size_0 := by decide +kernel
theorem dksX1_size_1 : cX1_size.data.toList.drop 22 = dktX1_size_1 := dk_seg dksX1_size_0 22 rfl rfl
theorem dksX1_size_2 : cX1_size.data.toList.drop 35 = dktX1_size_2 := dk_seg dksX1_size_1 13 rfl rfl
theorem dksX1_size_3 : cX1_size.data.toList.drop 92 = dktX1_size_3 := dk_seg dksX1_size_2 57 rfl rfl
theorem dksX1_size_4 : cX1_size.data.toList.drop 116 = dktX1_size_4 := dk_seg dksX1_size_3 24 rfl rfl
theorem dksX1_size_5 : cX1_size.data.toList.drop 140 = dktX1_size_5 := dk_seg dksX1_size_4 24 rfl rfl
theorem dksX1_size_6 : cX1_size.data.toList.drop 164 = dktX1_size_6 := dk_seg dksX1_size_5 24 rfl rfl
theorem dX1_size_0 : decode cX1_size 0 = .ok (.iload_n 1, 1) := dk_27 (dk_at dksX1_size_0 0 rfl rfl)
theorem dX1_size_1 : decode cX1_size 1 = .ok (.bipush 11, 2) := dk_16 11 (dk_at dksX1_size_0 1 rfl rfl)
theorem dX1_size_3 : decode cX1_size 3 = .ok (.if_icmp .ne 8, 3) := dk_160 0 8 (dk_at dksX1_size_0 3 rfl rfl)
theorem dX1_size_6 : decode cX1_size 6 = .ok (.aload_n 0, 1) := dk_42 (dk_at dksX1_size_0 6 rfl rfl)
theorem dX1_size_7 : decode cX1_size 7 = .ok (.getfield 105, 3) := dk_180 0 105 (dk_at dksX1_size_0 7 rfl rfl)
theorem dX1_size_10 : decode cX1_size 10 = .ok (.ireturn, 1) := dk_172 (dk_at dksX1_size_0 10 rfl rfl)
theorem dX1_size_11 : decode cX1_size 11 = .ok (.aload_n 0, 1) := dk_42 (dk_at dksX1_size_0 11 rfl rfl)
theorem dX1_size_12 : decode cX1_size 12 = .ok (.getfield 127, 3) := dk_180 0 127 (dk_at dksX1_size_0 12 rfl rfl)
theorem dX1_size_15 : decode cX1_size 15 = .ok (.ifnonnull 19, 3) := dk_199 0 19 (dk_at dksX1_size_0 15 rfl rfl)
theorem dX1_size_18 : decode cX1_size 18 = .ok (.iload_n 1, 1) := dk_27 (dk_at dksX1_size_0 18 rfl rfl)
theorem dX1_size_19 : decode cX1_size 19 = .ok (.iconst 0, 1) := dk_3 (dk_at dksX1_size_0 19 rfl rfl)
theorem dX1_size_20 : decode cX1_size 20 = .ok (.bipush 10, 2) := dk_16 10 (dk_at dksX1_size_0 20 rfl rfl)
theorem dX1_size_22 : decode cX1_size 22 = .ok (.invokestatic 112, 3) := dk_184 0 112 (dk_at dksX1_size_1 0 rfl rfl)
theorem dX1_size_25 : decode cX1_size 25 = .ok (.ifCond .eq 7, 3) := dk_153 0 7 (dk_at dksX1_size_1 3 rfl rfl)
theorem dX1_size_28 : decode cX1_size 28 = .ok (.iconst 0, 1) := dk_3 (dk_at dksX1_size_1 6 rfl rfl)
theorem dX1_size_29 : decode cX1_size 29 = .ok (.goto 4, 3) := dk_167 0 4 (dk_at dksX1_size_1 7 rfl rfl)
theorem dX1_size_32 : decode cX1_size 32 = .ok (.iconst (-1), 1) := dk_2 (dk_at dksX1_size_1 10 rfl rfl)
theorem dX1_size_33 : decode cX1_size 33 = .ok (.ireturn, 1) := dk_172 (dk_at dksX1_size_1 11 rfl rfl)
theorem dX1_size_34 : decode cX1_size 34 = .ok (.iload_n 1, 1) := dk_27 (dk_at dksX1_size_1 12 rfl rfl)
theorem dX1_size_35 : decode cX1_size 35 = .ok (.tableswitch 142 0 10 #[57, 65, 73, 81, 89, 97, 105, 113, 121, 129, 137], 57) := by decide +kernel
theorem dX1_size_92 : decode cX1_size 92 = .ok (.aload_n 0, 1) := dk_42 (dk_at dksX1_size_3 0 rfl rfl)
theorem dX1_size_93 : decode cX1_size 93 = .ok (.getfield 127, 3) := dk_180 0 127 (dk_at dksX1_size_3 1 rfl rfl)
theorem dX1_size_96 : decode cX1_size 96 = .ok (.getfield 155, 3) := dk_180 0 155 (dk_at dksX1_size_3 4 rfl rfl)
theorem dX1_size_99 : decode cX1_size 99 = .ok (.ireturn, 1) := dk_172 (dk_at dksX1_size_3 7 rfl rfl)
theorem dX1_size_100 : decode cX1_size 100 = .ok (.aload_n 0, 1) := dk_42 (dk_at dksX1_size_3 8 rfl rfl)
theorem dX1_size_101 : decode cX1_size 101 = .ok (.getfield 127, 3) := dk_180 0 127 (dk_at dksX1_size_3 9 rfl rfl)
theorem dX1_size_104 : decode cX1_size 104 = .ok (.getfield 160, 3) := dk_180 0 160 (dk_at dksX1_size_3 12 rfl rfl)
theorem dX1_size_107 : decode cX1_size 107 = .ok (.ireturn, 1) := dk_172 (dk_at dksX1_size_3 15 rfl rfl)
theorem dX1_size_108 : decode cX1_size 108 = .ok (.aload_n 0, 1) := dk_42 (dk_at dksX1_size_3 16 rfl rfl)
theorem dX1_size_109 : decode cX1_size 109 = .ok (.getfield 127, 3) := dk_180 0 127 (dk_at dksX1_size_3 17 rfl rfl)
theorem dX1_size_112 : decode cX1_size 112 = .ok (.getfield 334, 3) := dk_180 1 78 (dk_at dksX1_size_3 20 rfl rfl)
theorem dX1_size_115 : decode cX1_size 115 = .ok (.ireturn, 1) := dk_172 (dk_at dksX1_size_3 23 rfl rfl)
theorem dX1_size_116 : decode cX1_size 116 = .ok (.aload_n 0, 1) := dk_42 (dk_at dksX1_size_4 0 rfl rfl)
theorem dX1_size_117 : decode cX1_size 117 = .ok (.getfield 127, 3) := dk_180 0 127 (dk_at dksX1_size_4 1 rfl rfl)
theorem dX1_size_120 : decode cX1_size 120 = .ok (.getfield 337, 3) := dk_180 1 81 (dk_at dksX1_size_4 4 rfl rfl)
theorem dX1_size_123 : decode cX1_size 123 = .ok (.ireturn, 1) := dk_172 (dk_at dksX1_size_4 7 rfl rfl)
theorem dX1_size_124 : decode cX1_size 124 = .ok (.aload_n 0, 1) := dk_42 (dk_at dksX1_size_4 8 rfl rfl)
theorem dX1_size_125 : decode cX1_size 125 = .ok (.getfield 127, 3) := dk_180 0 127 (dk_at dksX1_size_4 9 rfl rfl)
theorem dX1_size_128 : decode cX1_size 128 = .ok (.getfield 340, 3) := dk_180 1 84 (dk_at dksX1_size_4 12 rfl rfl)
theorem dX1_size_131 : decode cX1_size 131 = .ok (.ireturn, 1) := dk_172 (dk_at dksX1_size_4 15 rfl rfl)
theorem dX1_size_132 : decode cX1_size 132 = .ok (.aload_n 0, 1) := dk_42 (dk_at dksX1_size_4 16 rfl rfl)
theorem dX1_size_133 : decode cX1_size 133 = .ok (.getfield 127, 3) := dk_180 0 127 (dk_at dksX1_size_4 17 rfl rfl)
theorem dX1_size_136 : decode cX1_size 136 = .ok (.getfield 343, 3) := dk_180 1 87 (dk_at dksX1_size_4 20 rfl rfl)
theorem dX1_size_139 : decode cX1_size 139 = .ok (.ireturn, 1) := dk_172 (dk_at dksX1_size_4 23 rfl rfl)
theorem dX1_size_140 : decode cX1_size 140 = .ok (.aload_n 0, 1) := dk_42 (dk_at dksX1_size_5 0 rfl rfl)
theorem dX1_size_141 : decode cX1_size 141 = .ok (.getfield 127, 3) := dk_180 0 127 (dk_at dksX1_size_5 1 rfl rfl)
theorem dX1_size_144 : decode cX1_size 144 = .ok (.getfield 346, 3) := dk_180 1 90 (dk_at dksX1_size_5 4 rfl rfl)
theorem dX1_size_147 : decode cX1_size 147 = .ok (.ireturn, 1) := dk_172 (dk_at dksX1_size_5 7 rfl rfl)
theorem dX1_size_148 : decode cX1_size 148 = .ok (.aload_n 0, 1) := dk_42 (dk_at dksX1_size_5 8 rfl rfl)
theorem dX1_size_149 : decode cX1_size 149 = .ok (.getfield 127, 3) := dk_180 0 127 (dk_at dksX1_size_5 9 rfl rfl)
theorem dX1_size_152 : decode cX1_size 152 = .ok (.getfield 349, 3) := dk_180 1 93 (dk_at dksX1_size_5 12 rfl rfl)
theorem dX1_size_155 : decode cX1_size 155 = .ok (.ireturn, 1) := dk_172 (dk_at dksX1_size_5 15 rfl rfl)
theorem dX1_size_156 : decode cX1_size 156 = .ok (.aload_n 0, 1) := dk_42 (dk_at dksX1_size_5 16 rfl rfl)
theorem dX1_size_157 : decode cX1_size 157 = .ok (.getfield 127, 3) := dk_180 0 127 (dk_at dksX1_size_5 17 rfl rfl)
theorem dX1_size_160 : decode cX1_size 160 = .ok (.getfield 352, 3) := dk_180 1 96 (dk_at dksX1_size_5 20 rfl rfl)
theorem dX1_size_163 : decode cX1_size 163 = .ok (.ireturn, 1) := dk_172 (dk_at dksX1_size_5 23 rfl rfl)
theorem dX1_size_164 : decode cX1_size 164 = .ok (.aload_n 0, 1) := dk_42 (dk_at dksX1_size_6 0 rfl rfl)
theorem dX1_size_165 : decode cX1_size 165 = .ok (.getfield 127, 3) := dk_180 0 127 (dk_at dksX1_size_6 1 rfl rfl)
theorem dX1_size_168 : decode cX1_size 168 = .ok (.getfield 355, 3) := dk_180 1 99 (dk_at dksX1_size_6 4 rfl rfl)
theorem dX1_size_171 : decode cX1_size 171 = .ok (.ireturn, 1) := dk_172 (dk_at dksX1_size_6 7 rfl rfl)
theorem dX1_size_172 : decode cX1_size 172 = .ok (.aload_n 0, 1) := dk_42 (dk_at dksX1_size_6 8 rfl rfl)
theorem dX1_size_173 : decode cX1_size 173 = .ok (.getfield 146, 3) := dk_180 0 146 (dk_at dksX1_size_6 9 rfl rfl)
theorem dX1_size_176 : decode cX1_size 176 = .ok (.ireturn, 1) := dk_172 (dk_at dksX1_size_6 12 rfl rfl)
theorem dX1_size_177 : decode cX1_size 177 = .ok (.iconst (-1), 1) := dk_2 (dk_at dksX1_size_6 13 rfl rfl)
theorem dX1_size_178 : decode cX1_size 178 = .ok (.ireturn, 1) := dk_172 (dk_at dksX1_size_6 14 rfl rfl)
abbrev cX1_trouble : ByteArray := prog_1_method_51_code
def yX1_trouble : MethodName := ⟨RX1, "trouble", "()I"⟩
theorem dX1_trouble_0 : decode cX1_trouble 0 = .ok (.aload_n 0, 1) := by decide +kernel
theorem dX1_trouble_1 : decode cX1_trouble 1 = .ok (.getfield 99, 3) := by decide +kernel
theorem dX1_trouble_4 : decode cX1_trouble 4 = .ok (.ireturn, 1) := by decide +kernel
abbrev cX1_led : ByteArray := prog_1_method_49_code
def yX1_led : MethodName := ⟨RX1, "led", "(I)I"⟩
def dkwX1_led_1 : List UInt8 := [180, 0, 50, 27, 46, 172]
abbrev dktX1_led_1 : List UInt8 := dkwX1_led_1 ++ []
def dkwX1_led_0 : List UInt8 := [27, 3, 42, 180, 0, 143, 4, 100, 184, 0, 112, 154, 0, 11, 187, 1, 75, 89, 183, 1, 77, 191, 42]
abbrev dktX1_led_0 : List UInt8 := dkwX1_led_0 ++ dktX1_led_1
theorem dksX1_led_0 : cX1_led.data.toList.drop 0 = dktX1_led_0 := by decide +kernel
theorem dksX1_led_1 : cX1_led.data.toList.drop 23 = dktX1_led_1 := dk_seg dksX1_led_0 23 rfl rfl
theorem dX1_led_0 : decode cX1_led 0 = .ok (.iload_n 1, 1) := dk_27 (dk_at dksX1_led_0 0 rfl rfl)
theorem dX1_led_1 : decode cX1_led 1 = .ok (.iconst 0, 1) := dk_3 (dk_at dksX1_led_0 1 rfl rfl)
theorem dX1_led_2 : decode cX1_led 2 = .ok (.aload_n 0, 1) := dk_42 (dk_at dksX1_led_0 2 rfl rfl)
theorem dX1_led_3 : decode cX1_led 3 = .ok (.getfield 143, 3) := dk_180 0 143 (dk_at dksX1_led_0 3 rfl rfl)
theorem dX1_led_6 : decode cX1_led 6 = .ok (.iconst 1, 1) := dk_4 (dk_at dksX1_led_0 6 rfl rfl)
theorem dX1_led_7 : decode cX1_led 7 = .ok (.isub, 1) := dk_100 (dk_at dksX1_led_0 7 rfl rfl)
theorem dX1_led_8 : decode cX1_led 8 = .ok (.invokestatic 112, 3) := dk_184 0 112 (dk_at dksX1_led_0 8 rfl rfl)
theorem dX1_led_11 : decode cX1_led 11 = .ok (.ifCond .ne 11, 3) := dk_154 0 11 (dk_at dksX1_led_0 11 rfl rfl)
theorem dX1_led_14 : decode cX1_led 14 = .ok (.new 331, 3) := dk_187 1 75 (dk_at dksX1_led_0 14 rfl rfl)
theorem dX1_led_17 : decode cX1_led 17 = .ok (.dup, 1) := dk_89 (dk_at dksX1_led_0 17 rfl rfl)
theorem dX1_led_18 : decode cX1_led 18 = .ok (.invokespecial 333, 3) := dk_183 1 77 (dk_at dksX1_led_0 18 rfl rfl)
theorem dX1_led_21 : decode cX1_led 21 = .ok (.athrow, 1) := dk_191 (dk_at dksX1_led_0 21 rfl rfl)
theorem dX1_led_22 : decode cX1_led 22 = .ok (.aload_n 0, 1) := dk_42 (dk_at dksX1_led_0 22 rfl rfl)
theorem dX1_led_23 : decode cX1_led 23 = .ok (.getfield 50, 3) := dk_180 0 50 (dk_at dksX1_led_1 0 rfl rfl)
theorem dX1_led_26 : decode cX1_led 26 = .ok (.iload_n 1, 1) := dk_27 (dk_at dksX1_led_1 3 rfl rfl)
theorem dX1_led_27 : decode cX1_led 27 = .ok (.iaload, 1) := dk_46 (dk_at dksX1_led_1 4 rfl rfl)
theorem dX1_led_28 : decode cX1_led 28 = .ok (.ireturn, 1) := dk_172 (dk_at dksX1_led_1 5 rfl rfl)
theorem q83 : (Jvm.Cond.initialized "RoarMill") ∈ lw_all := lw_g (lw_at lw_m1 1 rfl) rfl
theorem q108 : (Jvm.Cond.instantiable "RoarMill" (29 : Nat)) ∈ lw_all := lw_g (lw_at lw_m1 26 rfl) rfl
theorem q110 : (Jvm.Cond.instanceMethod ({ cls := "RoarMill", name := "<init>", desc := "()V" } : Jvm.MethodName)) ∈ lw_all := lw_g (lw_at lw_m1 28 rfl) rfl
theorem q111 : (Jvm.Cond.code ({ cls := "RoarMill", name := "<init>", desc := "()V" } : Jvm.MethodName) prog_1_method_2_code (2 : Nat) (Option.none : Option Jvm.ClassFile.FieldType)) ∈ lw_all := lw_g (lw_at lw_m1 29 rfl) rfl
theorem q112 : (Jvm.Cond.methodLink "RoarMill" (1 : Nat) ({ cls := "java/lang/Object", name := "<init>", desc := "()V" } : Jvm.MethodName)) ∈ lw_all := lw_g (lw_at lw_m1 30 rfl) rfl
theorem q115 : (Jvm.Cond.classLink "RoarMill" (13 : Nat) "RoarMill$Reader") ∈ lw_all := lw_g (lw_at lw_m1 33 rfl) rfl
theorem q117 : (Jvm.Cond.methodLink "RoarMill" (15 : Nat) ({ cls := "RoarMill$Reader", name := "<init>", desc := "([B)V" } : Jvm.MethodName)) ∈ lw_all := lw_g (lw_at lw_m1 35 rfl) rfl
theorem q174 : (Jvm.Cond.fieldLink "RoarMill" (133 : Nat) "RoarMill$Refused" "fault" "I") ∈ lw_all := lw_g (lw_at lw_m1 92 rfl) rfl
theorem q176 : (Jvm.Cond.fieldLink "RoarMill" (134 : Nat) "RoarMill$Refused" "place" "I") ∈ lw_all := lw_g (lw_at lw_m1 94 rfl) rfl
theorem q227 : (Jvm.Cond.classLink "RoarMill" (26 : Nat) "RoarMill$State") ∈ lw_all := lw_g (lw_at lw_m1 145 rfl) rfl
theorem q229 : (Jvm.Cond.methodLinkNest "RoarMill" (28 : Nat) ({ cls := "RoarMill$State", name := "<init>", desc := "()V" } : Jvm.MethodName) "RoarMill") ∈ lw_tbl := lw_at lw_m1 147 rfl
theorem q234 : (Jvm.Cond.fieldLink "RoarMill" (201 : Nat) "RoarMill$State" "held" "[I") ∈ lw_all := lw_g (lw_at lw_m1 152 rfl) rfl
theorem q236 : (Jvm.Cond.fieldLink "RoarMill" (204 : Nat) "RoarMill$State" "back" "[I") ∈ lw_all := lw_g (lw_at lw_m1 154 rfl) rfl
theorem q238 : (Jvm.Cond.fieldLink "RoarMill" (207 : Nat) "RoarMill$State" "passed" "[I") ∈ lw_all := lw_g (lw_at lw_m1 156 rfl) rfl
theorem q240 : (Jvm.Cond.fieldLink "RoarMill" (210 : Nat) "RoarMill$State" "passedAll" "[I") ∈ lw_all := lw_g (lw_at lw_m1 158 rfl) rfl
theorem q242 : (Jvm.Cond.fieldLink "RoarMill" (213 : Nat) "RoarMill$State" "inBin" "I") ∈ lw_all := lw_g (lw_at lw_m1 160 rfl) rfl
theorem q244 : (Jvm.Cond.fieldLink "RoarMill" (216 : Nat) "RoarMill$State" "spilt" "I") ∈ lw_all := lw_g (lw_at lw_m1 162 rfl) rfl
theorem q246 : (Jvm.Cond.fieldLink "RoarMill" (219 : Nat) "RoarMill$State" "drawn" "I") ∈ lw_all := lw_g (lw_at lw_m1 164 rfl) rfl
theorem q248 : (Jvm.Cond.fieldLink "RoarMill" (222 : Nat) "RoarMill$State" "lacking" "I") ∈ lw_all := lw_g (lw_at lw_m1 166 rfl) rfl
theorem q250 : (Jvm.Cond.fieldLink "RoarMill" (187 : Nat) "RoarMill$State" "age" "I") ∈ lw_all := lw_g (lw_at lw_m1 168 rfl) rfl
theorem q252 : (Jvm.Cond.fieldLink "RoarMill" (184 : Nat) "RoarMill$State" "tears" "I") ∈ lw_all := lw_g (lw_at lw_m1 170 rfl) rfl
theorem q254 : (Jvm.Cond.fieldLink "RoarMill" (190 : Nat) "RoarMill$State" "now" "I") ∈ lw_all := lw_g (lw_at lw_m1 172 rfl) rfl
theorem q256 : (Jvm.Cond.fieldLink "RoarMill" (225 : Nat) "RoarMill$State" "full" "I") ∈ lw_all := lw_g (lw_at lw_m1 174 rfl) rfl
theorem q258 : (Jvm.Cond.fieldLink "RoarMill" (228 : Nat) "RoarMill$State" "effect" "I") ∈ lw_all := lw_g (lw_at lw_m1 176 rfl) rfl
theorem q260 : (Jvm.Cond.fieldLink "RoarMill" (231 : Nat) "RoarMill$State" "power" "I") ∈ lw_all := lw_g (lw_at lw_m1 178 rfl) rfl
theorem q262 : (Jvm.Cond.fieldLink "RoarMill" (234 : Nat) "RoarMill$State" "roar" "I") ∈ lw_all := lw_g (lw_at lw_m1 180 rfl) rfl
theorem q264 : (Jvm.Cond.fieldLink "RoarMill" (241 : Nat) "RoarMill$State" "came" "I") ∈ lw_all := lw_g (lw_at lw_m1 182 rfl) rfl
theorem q266 : (Jvm.Cond.fieldLink "RoarMill" (237 : Nat) "RoarMill$State" "cost" "J") ∈ lw_all := lw_g (lw_at lw_m1 184 rfl) rfl
theorem q268 : (Jvm.Cond.fieldLink "RoarMill" (197 : Nat) "RoarMill$State" "stands" "Z") ∈ lw_all := lw_g (lw_at lw_m1 186 rfl) rfl
theorem q307 : (Jvm.Cond.classLink "RoarMill" (36 : Nat) "RoarMill$Settings") ∈ lw_all := lw_g (lw_at lw_m1 225 rfl) rfl
theorem q309 : (Jvm.Cond.methodLinkNest "RoarMill" (38 : Nat) ({ cls := "RoarMill$Settings", name := "<init>", desc := "()V" } : Jvm.MethodName) "RoarMill") ∈ lw_tbl := lw_at lw_m1 227 rfl
theorem q315 : (Jvm.Cond.fieldLink "RoarMill" (163 : Nat) "RoarMill$Settings" "rate" "I") ∈ lw_all := lw_g (lw_at lw_m1 233 rfl) rfl
theorem q318 : (Jvm.Cond.fieldLink "RoarMill" (166 : Nat) "RoarMill$Settings" "water" "I") ∈ lw_all := lw_g (lw_at lw_m1 236 rfl) rfl
theorem q321 : (Jvm.Cond.fieldLink "RoarMill" (169 : Nat) "RoarMill$Settings" "ore" "I") ∈ lw_all := lw_g (lw_at lw_m1 239 rfl) rfl
theorem q331 : (Jvm.Cond.classLink "RoarMill" (82 : Nat) "RoarMill$Row") ∈ lw_all := lw_g (lw_at lw_m2 9 rfl) rfl
theorem q333 : (Jvm.Cond.methodLinkNest "RoarMill" (84 : Nat) ({ cls := "RoarMill$Row", name := "<init>", desc := "()V" } : Jvm.MethodName) "RoarMill") ∈ lw_tbl := lw_at lw_m2 11 rfl
theorem q338 : (Jvm.Cond.fieldLink "RoarMill" (306 : Nat) "RoarMill$Row" "numbers" "[I") ∈ lw_all := lw_g (lw_at lw_m2 16 rfl) rfl
theorem q340 : (Jvm.Cond.fieldLink "RoarMill" (149 : Nat) "RoarMill$Row" "many" "I") ∈ lw_all := lw_g (lw_at lw_m2 18 rfl) rfl
theorem q346 : (Jvm.Cond.classLink "RoarMill" (92 : Nat) "RoarMill$Led") ∈ lw_all := lw_g (lw_at lw_m2 24 rfl) rfl
theorem q348 : (Jvm.Cond.methodLinkNest "RoarMill" (94 : Nat) ({ cls := "RoarMill$Led", name := "<init>", desc := "()V" } : Jvm.MethodName) "RoarMill") ∈ lw_tbl := lw_at lw_m2 26 rfl
theorem q355 : (Jvm.Cond.fieldLink "RoarMill" (329 : Nat) "RoarMill$Led" "passed" "J") ∈ lw_all := lw_g (lw_at lw_m2 33 rfl) rfl
theorem q364 : (Jvm.Cond.fieldLink "RoarMill" (9 : Nat) "RoarMill" "tape" "[B") ∈ lw_all := lw_g (lw_at lw_m2 42 rfl) rfl
theorem q365 : (Jvm.Cond.fieldLink "RoarMill" (105 : Nat) "RoarMill" "taped" "I") ∈ lw_all := lw_g (lw_at lw_m2 43 rfl) rfl
theorem q366 : (Jvm.Cond.fieldLink "RoarMill" (18 : Nat) "RoarMill" "reader" "LRoarMill$Reader;") ∈ lw_all := lw_g (lw_at lw_m2 44 rfl) rfl
theorem q367 : (Jvm.Cond.fieldLink "RoarMill" (127 : Nat) "RoarMill" "works" "LRoarMill$Works;") ∈ lw_all := lw_g (lw_at lw_m2 45 rfl) rfl
theorem q368 : (Jvm.Cond.fieldLink "RoarMill" (99 : Nat) "RoarMill" "trouble" "I") ∈ lw_all := lw_g (lw_at lw_m2 46 rfl) rfl
theorem q369 : (Jvm.Cond.fieldLink "RoarMill" (120 : Nat) "RoarMill" "fault" "I") ∈ lw_all := lw_g (lw_at lw_m2 47 rfl) rfl
theorem q370 : (Jvm.Cond.fieldLink "RoarMill" (22 : Nat) "RoarMill" "where" "I") ∈ lw_all := lw_g (lw_at lw_m2 48 rfl) rfl
theorem q371 : (Jvm.Cond.fieldLink "RoarMill" (29 : Nat) "RoarMill" "state" "LRoarMill$State;") ∈ lw_all := lw_g (lw_at lw_m2 49 rfl) rfl
theorem q372 : (Jvm.Cond.fieldLink "RoarMill" (33 : Nat) "RoarMill" "other" "LRoarMill$State;") ∈ lw_all := lw_g (lw_at lw_m2 50 rfl) rfl
theorem q373 : (Jvm.Cond.fieldLink "RoarMill" (39 : Nat) "RoarMill" "settings" "LRoarMill$Settings;") ∈ lw_all := lw_g (lw_at lw_m2 51 rfl) rfl
theorem q374 : (Jvm.Cond.fieldLink "RoarMill" (43 : Nat) "RoarMill" "tried" "LRoarMill$Settings;") ∈ lw_all := lw_g (lw_at lw_m2 52 rfl) rfl
theorem q375 : (Jvm.Cond.fieldLink "RoarMill" (46 : Nat) "RoarMill" "program" "[LRoarMill$Settings;") ∈ lw_all := lw_g (lw_at lw_m2 53 rfl) rfl
theorem q376 : (Jvm.Cond.fieldLink "RoarMill" (50 : Nat) "RoarMill" "stood" "[I") ∈ lw_all := lw_g (lw_at lw_m2 54 rfl) rfl
theorem q377 : (Jvm.Cond.fieldLink "RoarMill" (143 : Nat) "RoarMill" "stoodMany" "I") ∈ lw_all := lw_g (lw_at lw_m2 55 rfl) rfl
theorem q378 : (Jvm.Cond.fieldLink "RoarMill" (54 : Nat) "RoarMill" "seenHour" "[I") ∈ lw_all := lw_g (lw_at lw_m2 56 rfl) rfl
theorem q379 : (Jvm.Cond.fieldLink "RoarMill" (57 : Nat) "RoarMill" "seenWhat" "[I") ∈ lw_all := lw_g (lw_at lw_m2 57 rfl) rfl
theorem q380 : (Jvm.Cond.fieldLink "RoarMill" (60 : Nat) "RoarMill" "seenValue" "[I") ∈ lw_all := lw_g (lw_at lw_m2 58 rfl) rfl
theorem q381 : (Jvm.Cond.fieldLink "RoarMill" (63 : Nat) "RoarMill" "seenOff" "[I") ∈ lw_all := lw_g (lw_at lw_m2 59 rfl) rfl
theorem q382 : (Jvm.Cond.fieldLink "RoarMill" (146 : Nat) "RoarMill" "seenMany" "I") ∈ lw_all := lw_g (lw_at lw_m2 60 rfl) rfl
theorem q383 : (Jvm.Cond.fieldLink "RoarMill" (66 : Nat) "RoarMill" "guesses" "[I") ∈ lw_all := lw_g (lw_at lw_m2 61 rfl) rfl
theorem q384 : (Jvm.Cond.fieldLink "RoarMill" (69 : Nat) "RoarMill" "planStates" "[LRoarMill$State;") ∈ lw_all := lw_g (lw_at lw_m2 62 rfl) rfl
theorem q385 : (Jvm.Cond.fieldLink "RoarMill" (73 : Nat) "RoarMill" "rates" "[I") ∈ lw_all := lw_g (lw_at lw_m2 63 rfl) rfl
theorem q386 : (Jvm.Cond.fieldLink "RoarMill" (76 : Nat) "RoarMill" "bestRates" "[I") ∈ lw_all := lw_g (lw_at lw_m2 64 rfl) rfl
theorem q387 : (Jvm.Cond.fieldLink "RoarMill" (152 : Nat) "RoarMill" "plannedMany" "I") ∈ lw_all := lw_g (lw_at lw_m2 65 rfl) rfl
theorem q388 : (Jvm.Cond.fieldLink "RoarMill" (273 : Nat) "RoarMill" "bestCost" "J") ∈ lw_all := lw_g (lw_at lw_m2 66 rfl) rfl
theorem q389 : (Jvm.Cond.fieldLink "RoarMill" (79 : Nat) "RoarMill" "planned" "[I") ∈ lw_all := lw_g (lw_at lw_m2 67 rfl) rfl
theorem q390 : (Jvm.Cond.fieldLink "RoarMill" (85 : Nat) "RoarMill" "before" "LRoarMill$Row;") ∈ lw_all := lw_g (lw_at lw_m2 68 rfl) rfl
theorem q391 : (Jvm.Cond.fieldLink "RoarMill" (89 : Nat) "RoarMill" "after" "LRoarMill$Row;") ∈ lw_all := lw_g (lw_at lw_m2 69 rfl) rfl
theorem q392 : (Jvm.Cond.fieldLink "RoarMill" (95 : Nat) "RoarMill" "marked" "LRoarMill$Led;") ∈ lw_all := lw_g (lw_at lw_m2 70 rfl) rfl
theorem q393 : (Jvm.Cond.laysFinal "RoarMill" "RoarMill" "tape" "[B") ∈ lw_all := lw_g (lw_at lw_m2 71 rfl) rfl
theorem q394 : (Jvm.Cond.soleField "RoarMill" "tape") ∈ lw_all := lw_g (lw_at lw_m2 72 rfl) rfl
theorem q395 : (Jvm.Cond.lays "RoarMill" "RoarMill" "taped" "I") ∈ lw_all := lw_g (lw_at lw_m2 73 rfl) rfl
theorem q396 : (Jvm.Cond.soleField "RoarMill" "taped") ∈ lw_all := lw_g (lw_at lw_m2 74 rfl) rfl
theorem q397 : (Jvm.Cond.laysFinal "RoarMill" "RoarMill" "reader" "LRoarMill$Reader;") ∈ lw_all := lw_g (lw_at lw_m2 75 rfl) rfl
theorem q398 : (Jvm.Cond.soleField "RoarMill" "reader") ∈ lw_all := lw_g (lw_at lw_m2 76 rfl) rfl
theorem q399 : (Jvm.Cond.lays "RoarMill" "RoarMill" "works" "LRoarMill$Works;") ∈ lw_all := lw_g (lw_at lw_m2 77 rfl) rfl
theorem q400 : (Jvm.Cond.soleField "RoarMill" "works") ∈ lw_all := lw_g (lw_at lw_m2 78 rfl) rfl
theorem q401 : (Jvm.Cond.lays "RoarMill" "RoarMill" "trouble" "I") ∈ lw_all := lw_g (lw_at lw_m2 79 rfl) rfl
theorem q402 : (Jvm.Cond.soleField "RoarMill" "trouble") ∈ lw_all := lw_g (lw_at lw_m2 80 rfl) rfl
theorem q403 : (Jvm.Cond.lays "RoarMill" "RoarMill" "fault" "I") ∈ lw_all := lw_g (lw_at lw_m2 81 rfl) rfl
theorem q404 : (Jvm.Cond.soleField "RoarMill" "fault") ∈ lw_all := lw_g (lw_at lw_m2 82 rfl) rfl
theorem q405 : (Jvm.Cond.lays "RoarMill" "RoarMill" "where" "I") ∈ lw_all := lw_g (lw_at lw_m2 83 rfl) rfl
theorem q406 : (Jvm.Cond.soleField "RoarMill" "where") ∈ lw_all := lw_g (lw_at lw_m2 84 rfl) rfl
theorem q407 : (Jvm.Cond.laysFinal "RoarMill" "RoarMill" "state" "LRoarMill$State;") ∈ lw_all := lw_g (lw_at lw_m2 85 rfl) rfl
theorem q408 : (Jvm.Cond.soleField "RoarMill" "state") ∈ lw_all := lw_g (lw_at lw_m2 86 rfl) rfl
theorem q409 : (Jvm.Cond.laysFinal "RoarMill" "RoarMill" "other" "LRoarMill$State;") ∈ lw_all := lw_g (lw_at lw_m2 87 rfl) rfl
theorem q410 : (Jvm.Cond.soleField "RoarMill" "other") ∈ lw_all := lw_g (lw_at lw_m2 88 rfl) rfl
theorem q411 : (Jvm.Cond.laysFinal "RoarMill" "RoarMill" "settings" "LRoarMill$Settings;") ∈ lw_all := lw_g (lw_at lw_m2 89 rfl) rfl
theorem q412 : (Jvm.Cond.soleField "RoarMill" "settings") ∈ lw_all := lw_g (lw_at lw_m2 90 rfl) rfl
theorem q413 : (Jvm.Cond.laysFinal "RoarMill" "RoarMill" "tried" "LRoarMill$Settings;") ∈ lw_all := lw_g (lw_at lw_m2 91 rfl) rfl
theorem q414 : (Jvm.Cond.soleField "RoarMill" "tried") ∈ lw_all := lw_g (lw_at lw_m2 92 rfl) rfl
theorem q415 : (Jvm.Cond.laysFinal "RoarMill" "RoarMill" "program" "[LRoarMill$Settings;") ∈ lw_all := lw_g (lw_at lw_m2 93 rfl) rfl
theorem q416 : (Jvm.Cond.soleField "RoarMill" "program") ∈ lw_all := lw_g (lw_at lw_m2 94 rfl) rfl
theorem q417 : (Jvm.Cond.laysFinal "RoarMill" "RoarMill" "stood" "[I") ∈ lw_all := lw_g (lw_at lw_m2 95 rfl) rfl
theorem q418 : (Jvm.Cond.soleField "RoarMill" "stood") ∈ lw_all := lw_g (lw_at lw_m2 96 rfl) rfl
theorem q419 : (Jvm.Cond.lays "RoarMill" "RoarMill" "stoodMany" "I") ∈ lw_all := lw_g (lw_at lw_m2 97 rfl) rfl
theorem q420 : (Jvm.Cond.soleField "RoarMill" "stoodMany") ∈ lw_all := lw_g (lw_at lw_m2 98 rfl) rfl
theorem q421 : (Jvm.Cond.laysFinal "RoarMill" "RoarMill" "seenHour" "[I") ∈ lw_all := lw_g (lw_at lw_m2 99 rfl) rfl
theorem q422 : (Jvm.Cond.soleField "RoarMill" "seenHour") ∈ lw_all := lw_g (lw_at lw_m2 100 rfl) rfl
theorem q423 : (Jvm.Cond.laysFinal "RoarMill" "RoarMill" "seenWhat" "[I") ∈ lw_all := lw_g (lw_at lw_m2 101 rfl) rfl
theorem q424 : (Jvm.Cond.soleField "RoarMill" "seenWhat") ∈ lw_all := lw_g (lw_at lw_m2 102 rfl) rfl
theorem q425 : (Jvm.Cond.laysFinal "RoarMill" "RoarMill" "seenValue" "[I") ∈ lw_all := lw_g (lw_at lw_m2 103 rfl) rfl
theorem q426 : (Jvm.Cond.soleField "RoarMill" "seenValue") ∈ lw_all := lw_g (lw_at lw_m2 104 rfl) rfl
theorem q427 : (Jvm.Cond.laysFinal "RoarMill" "RoarMill" "seenOff" "[I") ∈ lw_all := lw_g (lw_at lw_m2 105 rfl) rfl
theorem q428 : (Jvm.Cond.soleField "RoarMill" "seenOff") ∈ lw_all := lw_g (lw_at lw_m2 106 rfl) rfl
theorem q429 : (Jvm.Cond.lays "RoarMill" "RoarMill" "seenMany" "I") ∈ lw_all := lw_g (lw_at lw_m2 107 rfl) rfl
theorem q430 : (Jvm.Cond.soleField "RoarMill" "seenMany") ∈ lw_all := lw_g (lw_at lw_m2 108 rfl) rfl
theorem q431 : (Jvm.Cond.laysFinal "RoarMill" "RoarMill" "guesses" "[I") ∈ lw_all := lw_g (lw_at lw_m2 109 rfl) rfl
theorem q432 : (Jvm.Cond.soleField "RoarMill" "guesses") ∈ lw_all := lw_g (lw_at lw_m2 110 rfl) rfl
theorem q433 : (Jvm.Cond.laysFinal "RoarMill" "RoarMill" "planStates" "[LRoarMill$State;") ∈ lw_all := lw_g (lw_at lw_m2 111 rfl) rfl
theorem q434 : (Jvm.Cond.soleField "RoarMill" "planStates") ∈ lw_all := lw_g (lw_at lw_m2 112 rfl) rfl
theorem q435 : (Jvm.Cond.laysFinal "RoarMill" "RoarMill" "rates" "[I") ∈ lw_all := lw_g (lw_at lw_m2 113 rfl) rfl
theorem q436 : (Jvm.Cond.soleField "RoarMill" "rates") ∈ lw_all := lw_g (lw_at lw_m2 114 rfl) rfl
theorem q437 : (Jvm.Cond.laysFinal "RoarMill" "RoarMill" "bestRates" "[I") ∈ lw_all := lw_g (lw_at lw_m2 115 rfl) rfl
theorem q438 : (Jvm.Cond.soleField "RoarMill" "bestRates") ∈ lw_all := lw_g (lw_at lw_m2 116 rfl) rfl
theorem q439 : (Jvm.Cond.lays "RoarMill" "RoarMill" "plannedMany" "I") ∈ lw_all := lw_g (lw_at lw_m2 117 rfl) rfl
theorem q440 : (Jvm.Cond.soleField "RoarMill" "plannedMany") ∈ lw_all := lw_g (lw_at lw_m2 118 rfl) rfl
theorem q441 : (Jvm.Cond.lays "RoarMill" "RoarMill" "bestCost" "J") ∈ lw_all := lw_g (lw_at lw_m2 119 rfl) rfl
theorem q442 : (Jvm.Cond.soleField "RoarMill" "bestCost") ∈ lw_all := lw_g (lw_at lw_m2 120 rfl) rfl
theorem q443 : (Jvm.Cond.laysFinal "RoarMill" "RoarMill" "planned" "[I") ∈ lw_all := lw_g (lw_at lw_m2 121 rfl) rfl
theorem q444 : (Jvm.Cond.soleField "RoarMill" "planned") ∈ lw_all := lw_g (lw_at lw_m2 122 rfl) rfl
theorem q445 : (Jvm.Cond.laysFinal "RoarMill" "RoarMill" "before" "LRoarMill$Row;") ∈ lw_all := lw_g (lw_at lw_m2 123 rfl) rfl
theorem q446 : (Jvm.Cond.soleField "RoarMill" "before") ∈ lw_all := lw_g (lw_at lw_m2 124 rfl) rfl
theorem q447 : (Jvm.Cond.laysFinal "RoarMill" "RoarMill" "after" "LRoarMill$Row;") ∈ lw_all := lw_g (lw_at lw_m2 125 rfl) rfl
theorem q448 : (Jvm.Cond.soleField "RoarMill" "after") ∈ lw_all := lw_g (lw_at lw_m2 126 rfl) rfl
theorem q449 : (Jvm.Cond.laysFinal "RoarMill" "RoarMill" "marked" "LRoarMill$Led;") ∈ lw_all := lw_g (lw_at lw_m2 127 rfl) rfl
theorem q450 : (Jvm.Cond.soleField "RoarMill" "marked") ∈ lw_all := lw_g (lw_at lw_m2 128 rfl) rfl
theorem q451 : (Jvm.Cond.superclass "RoarMill" "java/lang/Object") ∈ lw_all := lw_g (lw_at lw_m2 129 rfl) rfl
theorem q453 : (Jvm.Cond.instanceMethod ({ cls := "RoarMill", name := "feed", desc := "(IIIII)I" } : Jvm.MethodName)) ∈ lw_all := lw_g (lw_at lw_m2 131 rfl) rfl
theorem q454 : (Jvm.Cond.selects "RoarMill" ({ cls := "RoarMill", name := "feed", desc := "(IIIII)I" } : Jvm.MethodName) ({ cls := "RoarMill", name := "feed", desc := "(IIIII)I" } : Jvm.MethodName)) ∈ lw_all := lw_g (lw_at lw_m2 132 rfl) rfl
theorem q455 : (Jvm.Cond.code ({ cls := "RoarMill", name := "feed", desc := "(IIIII)I" } : Jvm.MethodName) prog_1_method_6_code (6 : Nat) (Option.some Jvm.ClassFile.FieldType.int)) ∈ lw_all := lw_g (lw_at lw_m2 133 rfl) rfl
theorem q456 : (Jvm.Cond.methodLink "RoarMill" (108 : Nat) ({ cls := "RoarMill", name := "bytes", desc := "(I)V" } : Jvm.MethodName)) ∈ lw_all := lw_g (lw_at lw_m2 134 rfl) rfl
theorem q457 : (Jvm.Cond.privateMethod ({ cls := "RoarMill", name := "bytes", desc := "(I)V" } : Jvm.MethodName)) ∈ lw_tbl := lw_at lw_m2 135 rfl
theorem q458 : (Jvm.Cond.instanceMethod ({ cls := "RoarMill", name := "bytes", desc := "(I)V" } : Jvm.MethodName)) ∈ lw_all := lw_g (lw_at lw_m2 136 rfl) rfl
theorem q459 : (Jvm.Cond.code ({ cls := "RoarMill", name := "bytes", desc := "(I)V" } : Jvm.MethodName) prog_1_method_7_code (3 : Nat) (Option.none : Option Jvm.ClassFile.FieldType)) ∈ lw_all := lw_g (lw_at lw_m2 137 rfl) rfl
theorem q461 : (Jvm.Cond.instanceMethod ({ cls := "RoarMill", name := "mill", desc := "(I)I" } : Jvm.MethodName)) ∈ lw_all := lw_g (lw_at lw_m2 139 rfl) rfl
theorem q462 : (Jvm.Cond.selects "RoarMill" ({ cls := "RoarMill", name := "mill", desc := "(I)I" } : Jvm.MethodName) ({ cls := "RoarMill", name := "mill", desc := "(I)I" } : Jvm.MethodName)) ∈ lw_all := lw_g (lw_at lw_m2 140 rfl) rfl
theorem q463 : (Jvm.Cond.codeWith ({ cls := "RoarMill", name := "mill", desc := "(I)I" } : Jvm.MethodName) prog_1_method_8_code (6 : Nat) (Option.some Jvm.ClassFile.FieldType.int) [((32 : Nat), (44 : Nat), (47 : Nat), (131 : Nat))]) ∈ lw_all := lw_g (lw_at lw_m2 141 rfl) rfl
theorem q464 : (Jvm.Cond.classLink "RoarMill" (131 : Nat) "RoarMill$Refused") ∈ lw_all := lw_g (lw_at lw_m2 142 rfl) rfl
theorem q465 : (Jvm.Cond.methodLink "RoarMill" (102 : Nat) ({ cls := "RoarMill", name := "anew", desc := "()V" } : Jvm.MethodName)) ∈ lw_all := lw_g (lw_at lw_m2 143 rfl) rfl
theorem q466 : (Jvm.Cond.privateMethod ({ cls := "RoarMill", name := "anew", desc := "()V" } : Jvm.MethodName)) ∈ lw_tbl := lw_at lw_m2 144 rfl
theorem q467 : (Jvm.Cond.instanceMethod ({ cls := "RoarMill", name := "anew", desc := "()V" } : Jvm.MethodName)) ∈ lw_all := lw_g (lw_at lw_m2 145 rfl) rfl
theorem q468 : (Jvm.Cond.code ({ cls := "RoarMill", name := "anew", desc := "()V" } : Jvm.MethodName) prog_1_method_3_code (1 : Nat) (Option.none : Option Jvm.ClassFile.FieldType)) ∈ lw_all := lw_g (lw_at lw_m2 146 rfl) rfl
theorem q469 : (Jvm.Cond.methodLink "RoarMill" (112 : Nat) ({ cls := "RoarMill", name := "in", desc := "(III)Z" } : Jvm.MethodName)) ∈ lw_all := lw_g (lw_at lw_m2 147 rfl) rfl
theorem q470 : (Jvm.Cond.static ({ cls := "RoarMill", name := "in", desc := "(III)Z" } : Jvm.MethodName)) ∈ lw_all := lw_g (lw_at lw_m2 148 rfl) rfl
theorem q471 : (Jvm.Cond.code ({ cls := "RoarMill", name := "in", desc := "(III)Z" } : Jvm.MethodName) prog_1_method_1_code (3 : Nat) (Option.some Jvm.ClassFile.FieldType.boolean)) ∈ lw_all := lw_g (lw_at lw_m2 149 rfl) rfl
theorem q472 : (Jvm.Cond.methodLink "RoarMill" (116 : Nat) ({ cls := "RoarMill", name := "no", desc := "(I)I" } : Jvm.MethodName)) ∈ lw_all := lw_g (lw_at lw_m2 150 rfl) rfl
theorem q473 : (Jvm.Cond.privateMethod ({ cls := "RoarMill", name := "no", desc := "(I)I" } : Jvm.MethodName)) ∈ lw_tbl := lw_at lw_m2 151 rfl
theorem q474 : (Jvm.Cond.instanceMethod ({ cls := "RoarMill", name := "no", desc := "(I)I" } : Jvm.MethodName)) ∈ lw_all := lw_g (lw_at lw_m2 152 rfl) rfl
theorem q475 : (Jvm.Cond.code ({ cls := "RoarMill", name := "no", desc := "(I)I" } : Jvm.MethodName) prog_1_method_4_code (2 : Nat) (Option.some Jvm.ClassFile.FieldType.int)) ∈ lw_all := lw_g (lw_at lw_m2 153 rfl) rfl
theorem q476 : (Jvm.Cond.methodLink "RoarMill" (123 : Nat) ({ cls := "RoarMill$Reader", name := "read", desc := "(I)LRoarMill$Works;" } : Jvm.MethodName)) ∈ lw_all := lw_g (lw_at lw_m2 154 rfl) rfl
theorem q503 : (Jvm.Cond.fieldLink "RoarMill" (155 : Nat) "RoarMill$Works" "sizeMany" "I") ∈ lw_all := lw_g (lw_at lw_m2 181 rfl) rfl
theorem q506 : (Jvm.Cond.fieldLink "RoarMill" (160 : Nat) "RoarMill$Works" "oreMany" "I") ∈ lw_all := lw_g (lw_at lw_m2 184 rfl) rfl
theorem q511 : (Jvm.Cond.fieldLink "RoarMill" (355 : Nat) "RoarMill$Works" "priceMany" "I") ∈ lw_all := lw_g (lw_at lw_m2 189 rfl) rfl
theorem q515 : (Jvm.Cond.fieldLink "RoarMill" (334 : Nat) "RoarMill$Works" "room" "I") ∈ lw_all := lw_g (lw_at lw_m2 193 rfl) rfl
theorem q518 : (Jvm.Cond.fieldLink "RoarMill" (337 : Nat) "RoarMill$Works" "loud" "I") ∈ lw_all := lw_g (lw_at lw_m2 196 rfl) rfl
theorem q523 : (Jvm.Cond.fieldLink "RoarMill" (340 : Nat) "RoarMill$Works" "sieve" "I") ∈ lw_all := lw_g (lw_at lw_m2 201 rfl) rfl
theorem q527 : (Jvm.Cond.fieldLink "RoarMill" (343 : Nat) "RoarMill$Works" "slips" "I") ∈ lw_all := lw_g (lw_at lw_m2 205 rfl) rfl
theorem q531 : (Jvm.Cond.fieldLink "RoarMill" (346 : Nat) "RoarMill$Works" "life" "I") ∈ lw_all := lw_g (lw_at lw_m2 209 rfl) rfl
theorem q535 : (Jvm.Cond.fieldLink "RoarMill" (349 : Nat) "RoarMill$Works" "bin" "I") ∈ lw_all := lw_g (lw_at lw_m2 213 rfl) rfl
theorem q539 : (Jvm.Cond.fieldLink "RoarMill" (352 : Nat) "RoarMill$Works" "draws" "I") ∈ lw_all := lw_g (lw_at lw_m2 217 rfl) rfl
theorem q854 : (Jvm.Cond.methodLink "RoarMill" (137 : Nat) ({ cls := "RoarMill$State", name := "clear", desc := "()V" } : Jvm.MethodName)) ∈ lw_all := lw_g (lw_at lw_m4 52 rfl) rfl
theorem q858 : (Jvm.Cond.methodLink "RoarMill" (140 : Nat) ({ cls := "RoarMill$Settings", name := "first", desc := "()V" } : Jvm.MethodName)) ∈ lw_all := lw_g (lw_at lw_m4 56 rfl) rfl
theorem q863 : (Jvm.Cond.instanceMethod ({ cls := "RoarMill", name := "fault", desc := "()I" } : Jvm.MethodName)) ∈ lw_all := lw_g (lw_at lw_m4 61 rfl) rfl
theorem q864 : (Jvm.Cond.selects "RoarMill" ({ cls := "RoarMill", name := "fault", desc := "()I" } : Jvm.MethodName) ({ cls := "RoarMill", name := "fault", desc := "()I" } : Jvm.MethodName)) ∈ lw_all := lw_g (lw_at lw_m4 62 rfl) rfl
theorem q865 : (Jvm.Cond.code ({ cls := "RoarMill", name := "fault", desc := "()I" } : Jvm.MethodName) prog_1_method_9_code (1 : Nat) (Option.some Jvm.ClassFile.FieldType.int)) ∈ lw_all := lw_g (lw_at lw_m4 63 rfl) rfl
theorem q867 : (Jvm.Cond.instanceMethod ({ cls := "RoarMill", name := "where", desc := "()I" } : Jvm.MethodName)) ∈ lw_all := lw_g (lw_at lw_m4 65 rfl) rfl
theorem q868 : (Jvm.Cond.selects "RoarMill" ({ cls := "RoarMill", name := "where", desc := "()I" } : Jvm.MethodName) ({ cls := "RoarMill", name := "where", desc := "()I" } : Jvm.MethodName)) ∈ lw_all := lw_g (lw_at lw_m4 66 rfl) rfl
theorem q869 : (Jvm.Cond.code ({ cls := "RoarMill", name := "where", desc := "()I" } : Jvm.MethodName) prog_1_method_10_code (1 : Nat) (Option.some Jvm.ClassFile.FieldType.int)) ∈ lw_all := lw_g (lw_at lw_m4 67 rfl) rfl
theorem q871 : (Jvm.Cond.instanceMethod ({ cls := "RoarMill", name := "set", desc := "(III)Z" } : Jvm.MethodName)) ∈ lw_all := lw_g (lw_at lw_m4 69 rfl) rfl
theorem q872 : (Jvm.Cond.selects "RoarMill" ({ cls := "RoarMill", name := "set", desc := "(III)Z" } : Jvm.MethodName) ({ cls := "RoarMill", name := "set", desc := "(III)Z" } : Jvm.MethodName)) ∈ lw_all := lw_g (lw_at lw_m4 70 rfl) rfl
theorem q873 : (Jvm.Cond.code ({ cls := "RoarMill", name := "set", desc := "(III)Z" } : Jvm.MethodName) prog_1_method_13_code (4 : Nat) (Option.some Jvm.ClassFile.FieldType.boolean)) ∈ lw_all := lw_g (lw_at lw_m4 71 rfl) rfl
theorem q874 : (Jvm.Cond.methodLink "RoarMill" (172 : Nat) ({ cls := "RoarMill", name := "settingsWhy", desc := "(III)I" } : Jvm.MethodName)) ∈ lw_all := lw_g (lw_at lw_m4 72 rfl) rfl
theorem q875 : (Jvm.Cond.privateMethod ({ cls := "RoarMill", name := "settingsWhy", desc := "(III)I" } : Jvm.MethodName)) ∈ lw_tbl := lw_at lw_m4 73 rfl
theorem q876 : (Jvm.Cond.instanceMethod ({ cls := "RoarMill", name := "settingsWhy", desc := "(III)I" } : Jvm.MethodName)) ∈ lw_all := lw_g (lw_at lw_m4 74 rfl) rfl
theorem q877 : (Jvm.Cond.code ({ cls := "RoarMill", name := "settingsWhy", desc := "(III)I" } : Jvm.MethodName) prog_1_method_11_code (4 : Nat) (Option.some Jvm.ClassFile.FieldType.int)) ∈ lw_all := lw_g (lw_at lw_m4 75 rfl) rfl
theorem q878 : (Jvm.Cond.methodLink "RoarMill" (176 : Nat) ({ cls := "RoarMill", name := "yes", desc := "(I)Z" } : Jvm.MethodName)) ∈ lw_all := lw_g (lw_at lw_m4 76 rfl) rfl
theorem q879 : (Jvm.Cond.privateMethod ({ cls := "RoarMill", name := "yes", desc := "(I)Z" } : Jvm.MethodName)) ∈ lw_tbl := lw_at lw_m4 77 rfl
theorem q880 : (Jvm.Cond.instanceMethod ({ cls := "RoarMill", name := "yes", desc := "(I)Z" } : Jvm.MethodName)) ∈ lw_all := lw_g (lw_at lw_m4 78 rfl) rfl
theorem q881 : (Jvm.Cond.code ({ cls := "RoarMill", name := "yes", desc := "(I)Z" } : Jvm.MethodName) prog_1_method_5_code (2 : Nat) (Option.some Jvm.ClassFile.FieldType.boolean)) ∈ lw_all := lw_g (lw_at lw_m4 79 rfl) rfl
theorem q882 : (Jvm.Cond.methodLink "RoarMill" (180 : Nat) ({ cls := "RoarMill", name := "put", desc := "(LRoarMill$Settings;III)V" } : Jvm.MethodName)) ∈ lw_all := lw_g (lw_at lw_m4 80 rfl) rfl
theorem q883 : (Jvm.Cond.static ({ cls := "RoarMill", name := "put", desc := "(LRoarMill$Settings;III)V" } : Jvm.MethodName)) ∈ lw_all := lw_g (lw_at lw_m4 81 rfl) rfl
theorem q884 : (Jvm.Cond.code ({ cls := "RoarMill", name := "put", desc := "(LRoarMill$Settings;III)V" } : Jvm.MethodName) prog_1_method_12_code (4 : Nat) (Option.none : Option Jvm.ClassFile.FieldType)) ∈ lw_all := lw_g (lw_at lw_m4 82 rfl) rfl
theorem q886 : (Jvm.Cond.instanceMethod ({ cls := "RoarMill", name := "mend", desc := "(IZ)Z" } : Jvm.MethodName)) ∈ lw_all := lw_g (lw_at lw_m4 84 rfl) rfl
theorem q887 : (Jvm.Cond.selects "RoarMill" ({ cls := "RoarMill", name := "mend", desc := "(IZ)Z" } : Jvm.MethodName) ({ cls := "RoarMill", name := "mend", desc := "(IZ)Z" } : Jvm.MethodName)) ∈ lw_all := lw_g (lw_at lw_m4 85 rfl) rfl
theorem q888 : (Jvm.Cond.code ({ cls := "RoarMill", name := "mend", desc := "(IZ)Z" } : Jvm.MethodName) prog_1_method_14_code (3 : Nat) (Option.some Jvm.ClassFile.FieldType.boolean)) ∈ lw_all := lw_g (lw_at lw_m4 86 rfl) rfl
theorem q890 : (Jvm.Cond.instanceMethod ({ cls := "RoarMill", name := "go", desc := "(I)I" } : Jvm.MethodName)) ∈ lw_all := lw_g (lw_at lw_m4 88 rfl) rfl
theorem q891 : (Jvm.Cond.selects "RoarMill" ({ cls := "RoarMill", name := "go", desc := "(I)I" } : Jvm.MethodName) ({ cls := "RoarMill", name := "go", desc := "(I)I" } : Jvm.MethodName)) ∈ lw_all := lw_g (lw_at lw_m4 89 rfl) rfl
theorem q892 : (Jvm.Cond.code ({ cls := "RoarMill", name := "go", desc := "(I)I" } : Jvm.MethodName) prog_1_method_15_code (4 : Nat) (Option.some Jvm.ClassFile.FieldType.int)) ∈ lw_all := lw_g (lw_at lw_m4 90 rfl) rfl
theorem q893 : (Jvm.Cond.methodLink "RoarMill" (193 : Nat) ({ cls := "RoarMill$State", name := "hour", desc := "(LRoarMill$Works;LRoarMill$Settings;LRoarMill$Follows;)V" } : Jvm.MethodName)) ∈ lw_all := lw_g (lw_at lw_m4 91 rfl) rfl
theorem q937 : (Jvm.Cond.instanceMethod ({ cls := "RoarMill", name := "tons", desc := "(II)I" } : Jvm.MethodName)) ∈ lw_all := lw_g (lw_at lw_m4 135 rfl) rfl
theorem q938 : (Jvm.Cond.selects "RoarMill" ({ cls := "RoarMill", name := "tons", desc := "(II)I" } : Jvm.MethodName) ({ cls := "RoarMill", name := "tons", desc := "(II)I" } : Jvm.MethodName)) ∈ lw_all := lw_g (lw_at lw_m4 136 rfl) rfl
theorem q939 : (Jvm.Cond.code ({ cls := "RoarMill", name := "tons", desc := "(II)I" } : Jvm.MethodName) prog_1_method_16_code (3 : Nat) (Option.some Jvm.ClassFile.FieldType.int)) ∈ lw_all := lw_g (lw_at lw_m4 137 rfl) rfl
theorem q941 : (Jvm.Cond.instanceMethod ({ cls := "RoarMill", name := "state", desc := "(I)I" } : Jvm.MethodName)) ∈ lw_all := lw_g (lw_at lw_m4 139 rfl) rfl
theorem q942 : (Jvm.Cond.selects "RoarMill" ({ cls := "RoarMill", name := "state", desc := "(I)I" } : Jvm.MethodName) ({ cls := "RoarMill", name := "state", desc := "(I)I" } : Jvm.MethodName)) ∈ lw_all := lw_g (lw_at lw_m4 140 rfl) rfl
theorem q943 : (Jvm.Cond.code ({ cls := "RoarMill", name := "state", desc := "(I)I" } : Jvm.MethodName) prog_1_method_17_code (2 : Nat) (Option.some Jvm.ClassFile.FieldType.int)) ∈ lw_all := lw_g (lw_at lw_m4 141 rfl) rfl
theorem q945 : (Jvm.Cond.instanceMethod ({ cls := "RoarMill", name := "program", desc := "(IIII)Z" } : Jvm.MethodName)) ∈ lw_all := lw_g (lw_at lw_m4 143 rfl) rfl
theorem q946 : (Jvm.Cond.selects "RoarMill" ({ cls := "RoarMill", name := "program", desc := "(IIII)Z" } : Jvm.MethodName) ({ cls := "RoarMill", name := "program", desc := "(IIII)Z" } : Jvm.MethodName)) ∈ lw_all := lw_g (lw_at lw_m4 144 rfl) rfl
theorem q947 : (Jvm.Cond.code ({ cls := "RoarMill", name := "program", desc := "(IIII)Z" } : Jvm.MethodName) prog_1_method_18_code (6 : Nat) (Option.some Jvm.ClassFile.FieldType.boolean)) ∈ lw_all := lw_g (lw_at lw_m4 145 rfl) rfl
theorem q949 : (Jvm.Cond.instanceMethod ({ cls := "RoarMill", name := "seen", desc := "(IIII)I" } : Jvm.MethodName)) ∈ lw_all := lw_g (lw_at lw_m4 147 rfl) rfl
theorem q950 : (Jvm.Cond.selects "RoarMill" ({ cls := "RoarMill", name := "seen", desc := "(IIII)I" } : Jvm.MethodName) ({ cls := "RoarMill", name := "seen", desc := "(IIII)I" } : Jvm.MethodName)) ∈ lw_all := lw_g (lw_at lw_m4 148 rfl) rfl
theorem q951 : (Jvm.Cond.code ({ cls := "RoarMill", name := "seen", desc := "(IIII)I" } : Jvm.MethodName) prog_1_method_20_code (5 : Nat) (Option.some Jvm.ClassFile.FieldType.int)) ∈ lw_all := lw_g (lw_at lw_m4 149 rfl) rfl
theorem q952 : (Jvm.Cond.methodLink "RoarMill" (244 : Nat) ({ cls := "RoarMill", name := "isLook", desc := "(II)Z" } : Jvm.MethodName)) ∈ lw_all := lw_g (lw_at lw_m4 150 rfl) rfl
theorem q953 : (Jvm.Cond.privateMethod ({ cls := "RoarMill", name := "isLook", desc := "(II)Z" } : Jvm.MethodName)) ∈ lw_tbl := lw_at lw_m4 151 rfl
theorem q954 : (Jvm.Cond.instanceMethod ({ cls := "RoarMill", name := "isLook", desc := "(II)Z" } : Jvm.MethodName)) ∈ lw_all := lw_g (lw_at lw_m4 152 rfl) rfl
theorem q955 : (Jvm.Cond.code ({ cls := "RoarMill", name := "isLook", desc := "(II)Z" } : Jvm.MethodName) prog_1_method_19_code (3 : Nat) (Option.some Jvm.ClassFile.FieldType.boolean)) ∈ lw_all := lw_g (lw_at lw_m4 153 rfl) rfl
theorem q956 : (Jvm.Cond.constant "RoarMill" (248 : Nat) (999999 : Int32)) ∈ lw_all := lw_g (lw_at lw_m4 154 rfl) rfl
theorem q958 : (Jvm.Cond.instanceMethod ({ cls := "RoarMill", name := "forget", desc := "()I" } : Jvm.MethodName)) ∈ lw_all := lw_g (lw_at lw_m4 156 rfl) rfl
theorem q959 : (Jvm.Cond.selects "RoarMill" ({ cls := "RoarMill", name := "forget", desc := "()I" } : Jvm.MethodName) ({ cls := "RoarMill", name := "forget", desc := "()I" } : Jvm.MethodName)) ∈ lw_all := lw_g (lw_at lw_m4 157 rfl) rfl
theorem q960 : (Jvm.Cond.code ({ cls := "RoarMill", name := "forget", desc := "()I" } : Jvm.MethodName) prog_1_method_21_code (2 : Nat) (Option.some Jvm.ClassFile.FieldType.int)) ∈ lw_all := lw_g (lw_at lw_m4 158 rfl) rfl
theorem q962 : (Jvm.Cond.instanceMethod ({ cls := "RoarMill", name := "fits", desc := "()I" } : Jvm.MethodName)) ∈ lw_all := lw_g (lw_at lw_m4 160 rfl) rfl
theorem q963 : (Jvm.Cond.selects "RoarMill" ({ cls := "RoarMill", name := "fits", desc := "()I" } : Jvm.MethodName) ({ cls := "RoarMill", name := "fits", desc := "()I" } : Jvm.MethodName)) ∈ lw_all := lw_g (lw_at lw_m4 161 rfl) rfl
theorem q964 : (Jvm.Cond.code ({ cls := "RoarMill", name := "fits", desc := "()I" } : Jvm.MethodName) prog_1_method_26_code (1 : Nat) (Option.some Jvm.ClassFile.FieldType.int)) ∈ lw_all := lw_g (lw_at lw_m4 162 rfl) rfl
theorem q965 : (Jvm.Cond.methodLink "RoarMill" (260 : Nat) ({ cls := "RoarMill", name := "lays", desc := "()V" } : Jvm.MethodName)) ∈ lw_all := lw_g (lw_at lw_m4 163 rfl) rfl
theorem q966 : (Jvm.Cond.privateMethod ({ cls := "RoarMill", name := "lays", desc := "()V" } : Jvm.MethodName)) ∈ lw_tbl := lw_at lw_m4 164 rfl
theorem q967 : (Jvm.Cond.instanceMethod ({ cls := "RoarMill", name := "lays", desc := "()V" } : Jvm.MethodName)) ∈ lw_all := lw_g (lw_at lw_m4 165 rfl) rfl
theorem q968 : (Jvm.Cond.code ({ cls := "RoarMill", name := "lays", desc := "()V" } : Jvm.MethodName) prog_1_method_23_code (4 : Nat) (Option.none : Option Jvm.ClassFile.FieldType)) ∈ lw_all := lw_g (lw_at lw_m4 166 rfl) rfl
theorem q969 : (Jvm.Cond.methodLink "RoarMill" (249 : Nat) ({ cls := "RoarMill$State", name := "start", desc := "(LRoarMill$Works;III)V" } : Jvm.MethodName)) ∈ lw_all := lw_g (lw_at lw_m4 167 rfl) rfl
theorem q974 : (Jvm.Cond.methodLink "RoarMill" (253 : Nat) ({ cls := "RoarMill", name := "look", desc := "(LRoarMill$State;I)I" } : Jvm.MethodName)) ∈ lw_all := lw_g (lw_at lw_m4 172 rfl) rfl
theorem q975 : (Jvm.Cond.static ({ cls := "RoarMill", name := "look", desc := "(LRoarMill$State;I)I" } : Jvm.MethodName)) ∈ lw_all := lw_g (lw_at lw_m4 173 rfl) rfl
theorem q976 : (Jvm.Cond.code ({ cls := "RoarMill", name := "look", desc := "(LRoarMill$State;I)I" } : Jvm.MethodName) prog_1_method_22_code (2 : Nat) (Option.some Jvm.ClassFile.FieldType.int)) ∈ lw_all := lw_g (lw_at lw_m4 174 rfl) rfl
theorem q977 : (Jvm.Cond.methodLink "RoarMill" (263 : Nat) ({ cls := "RoarMill", name := "fitMany", desc := "(II)I" } : Jvm.MethodName)) ∈ lw_all := lw_g (lw_at lw_m4 175 rfl) rfl
theorem q978 : (Jvm.Cond.privateMethod ({ cls := "RoarMill", name := "fitMany", desc := "(II)I" } : Jvm.MethodName)) ∈ lw_tbl := lw_at lw_m4 176 rfl
theorem q979 : (Jvm.Cond.instanceMethod ({ cls := "RoarMill", name := "fitMany", desc := "(II)I" } : Jvm.MethodName)) ∈ lw_all := lw_g (lw_at lw_m4 177 rfl) rfl
theorem q980 : (Jvm.Cond.code ({ cls := "RoarMill", name := "fitMany", desc := "(II)I" } : Jvm.MethodName) prog_1_method_25_code (5 : Nat) (Option.some Jvm.ClassFile.FieldType.int)) ∈ lw_all := lw_g (lw_at lw_m4 178 rfl) rfl
theorem q981 : (Jvm.Cond.methodLink "RoarMill" (257 : Nat) ({ cls := "RoarMill", name := "agrees", desc := "(III)Z" } : Jvm.MethodName)) ∈ lw_all := lw_g (lw_at lw_m4 179 rfl) rfl
theorem q982 : (Jvm.Cond.privateMethod ({ cls := "RoarMill", name := "agrees", desc := "(III)Z" } : Jvm.MethodName)) ∈ lw_tbl := lw_at lw_m4 180 rfl
theorem q983 : (Jvm.Cond.instanceMethod ({ cls := "RoarMill", name := "agrees", desc := "(III)Z" } : Jvm.MethodName)) ∈ lw_all := lw_g (lw_at lw_m4 181 rfl) rfl
theorem q984 : (Jvm.Cond.code ({ cls := "RoarMill", name := "agrees", desc := "(III)Z" } : Jvm.MethodName) prog_1_method_24_code (8 : Nat) (Option.some Jvm.ClassFile.FieldType.boolean)) ∈ lw_all := lw_g (lw_at lw_m4 182 rfl) rfl
theorem q986 : (Jvm.Cond.instanceMethod ({ cls := "RoarMill", name := "fitAt", desc := "(II)I" } : Jvm.MethodName)) ∈ lw_all := lw_g (lw_at lw_m4 184 rfl) rfl
theorem q987 : (Jvm.Cond.selects "RoarMill" ({ cls := "RoarMill", name := "fitAt", desc := "(II)I" } : Jvm.MethodName) ({ cls := "RoarMill", name := "fitAt", desc := "(II)I" } : Jvm.MethodName)) ∈ lw_all := lw_g (lw_at lw_m4 185 rfl) rfl
theorem q988 : (Jvm.Cond.code ({ cls := "RoarMill", name := "fitAt", desc := "(II)I" } : Jvm.MethodName) prog_1_method_28_code (5 : Nat) (Option.some Jvm.ClassFile.FieldType.int)) ∈ lw_all := lw_g (lw_at lw_m4 186 rfl) rfl
theorem q989 : (Jvm.Cond.methodLink "RoarMill" (267 : Nat) ({ cls := "RoarMill", name := "partOf", desc := "(II)I" } : Jvm.MethodName)) ∈ lw_all := lw_g (lw_at lw_m4 187 rfl) rfl
theorem q990 : (Jvm.Cond.static ({ cls := "RoarMill", name := "partOf", desc := "(II)I" } : Jvm.MethodName)) ∈ lw_all := lw_g (lw_at lw_m4 188 rfl) rfl
theorem q991 : (Jvm.Cond.code ({ cls := "RoarMill", name := "partOf", desc := "(II)I" } : Jvm.MethodName) prog_1_method_27_code (2 : Nat) (Option.some Jvm.ClassFile.FieldType.int)) ∈ lw_all := lw_g (lw_at lw_m4 189 rfl) rfl
theorem q993 : (Jvm.Cond.instanceMethod ({ cls := "RoarMill", name := "certain", desc := "(I)I" } : Jvm.MethodName)) ∈ lw_all := lw_g (lw_at lw_m4 191 rfl) rfl
theorem q994 : (Jvm.Cond.selects "RoarMill" ({ cls := "RoarMill", name := "certain", desc := "(I)I" } : Jvm.MethodName) ({ cls := "RoarMill", name := "certain", desc := "(I)I" } : Jvm.MethodName)) ∈ lw_all := lw_g (lw_at lw_m4 192 rfl) rfl
theorem q995 : (Jvm.Cond.code ({ cls := "RoarMill", name := "certain", desc := "(I)I" } : Jvm.MethodName) prog_1_method_29_code (5 : Nat) (Option.some Jvm.ClassFile.FieldType.int)) ∈ lw_all := lw_g (lw_at lw_m4 193 rfl) rfl
theorem q997 : (Jvm.Cond.instanceMethod ({ cls := "RoarMill", name := "guess", desc := "(IIIII)I" } : Jvm.MethodName)) ∈ lw_all := lw_g (lw_at lw_m4 195 rfl) rfl
theorem q998 : (Jvm.Cond.selects "RoarMill" ({ cls := "RoarMill", name := "guess", desc := "(IIIII)I" } : Jvm.MethodName) ({ cls := "RoarMill", name := "guess", desc := "(IIIII)I" } : Jvm.MethodName)) ∈ lw_all := lw_g (lw_at lw_m4 196 rfl) rfl
theorem q999 : (Jvm.Cond.code ({ cls := "RoarMill", name := "guess", desc := "(IIIII)I" } : Jvm.MethodName) prog_1_method_31_code (7 : Nat) (Option.some Jvm.ClassFile.FieldType.int)) ∈ lw_all := lw_g (lw_at lw_m4 197 rfl) rfl
theorem q1000 : (Jvm.Cond.methodLink "RoarMill" (270 : Nat) ({ cls := "RoarMill", name := "isStart", desc := "(III)Z" } : Jvm.MethodName)) ∈ lw_all := lw_g (lw_at lw_m4 198 rfl) rfl
theorem q1001 : (Jvm.Cond.privateMethod ({ cls := "RoarMill", name := "isStart", desc := "(III)Z" } : Jvm.MethodName)) ∈ lw_tbl := lw_at lw_m4 199 rfl
theorem q1002 : (Jvm.Cond.instanceMethod ({ cls := "RoarMill", name := "isStart", desc := "(III)Z" } : Jvm.MethodName)) ∈ lw_all := lw_g (lw_at lw_m4 200 rfl) rfl
theorem q1003 : (Jvm.Cond.code ({ cls := "RoarMill", name := "isStart", desc := "(III)Z" } : Jvm.MethodName) prog_1_method_30_code (4 : Nat) (Option.some Jvm.ClassFile.FieldType.boolean)) ∈ lw_all := lw_g (lw_at lw_m4 201 rfl) rfl
theorem q1005 : (Jvm.Cond.instanceMethod ({ cls := "RoarMill", name := "swapped", desc := "()I" } : Jvm.MethodName)) ∈ lw_all := lw_g (lw_at lw_m4 203 rfl) rfl
theorem q1006 : (Jvm.Cond.selects "RoarMill" ({ cls := "RoarMill", name := "swapped", desc := "()I" } : Jvm.MethodName) ({ cls := "RoarMill", name := "swapped", desc := "()I" } : Jvm.MethodName)) ∈ lw_all := lw_g (lw_at lw_m4 204 rfl) rfl
theorem q1007 : (Jvm.Cond.code ({ cls := "RoarMill", name := "swapped", desc := "()I" } : Jvm.MethodName) prog_1_method_32_code (3 : Nat) (Option.some Jvm.ClassFile.FieldType.int)) ∈ lw_all := lw_g (lw_at lw_m4 205 rfl) rfl
theorem q1009 : (Jvm.Cond.instanceMethod ({ cls := "RoarMill", name := "plan", desc := "(I)I" } : Jvm.MethodName)) ∈ lw_all := lw_g (lw_at lw_m4 207 rfl) rfl
theorem q1010 : (Jvm.Cond.selects "RoarMill" ({ cls := "RoarMill", name := "plan", desc := "(I)I" } : Jvm.MethodName) ({ cls := "RoarMill", name := "plan", desc := "(I)I" } : Jvm.MethodName)) ∈ lw_all := lw_g (lw_at lw_m4 208 rfl) rfl
theorem q1011 : (Jvm.Cond.code ({ cls := "RoarMill", name := "plan", desc := "(I)I" } : Jvm.MethodName) prog_1_method_35_code (2 : Nat) (Option.some Jvm.ClassFile.FieldType.int)) ∈ lw_all := lw_g (lw_at lw_m4 209 rfl) rfl
theorem q1012 : (Jvm.Cond.constantLong "RoarMill" (276 : Nat) (-1 : Int64)) ∈ lw_all := lw_g (lw_at lw_m4 210 rfl) rfl
theorem q1013 : (Jvm.Cond.methodLink "RoarMill" (288 : Nat) ({ cls := "RoarMill", name := "plans", desc := "(LRoarMill$State;II)V" } : Jvm.MethodName)) ∈ lw_all := lw_g (lw_at lw_m4 211 rfl) rfl
theorem q1014 : (Jvm.Cond.privateMethod ({ cls := "RoarMill", name := "plans", desc := "(LRoarMill$State;II)V" } : Jvm.MethodName)) ∈ lw_tbl := lw_at lw_m4 212 rfl
theorem q1015 : (Jvm.Cond.instanceMethod ({ cls := "RoarMill", name := "plans", desc := "(LRoarMill$State;II)V" } : Jvm.MethodName)) ∈ lw_all := lw_g (lw_at lw_m4 213 rfl) rfl
theorem q1016 : (Jvm.Cond.code ({ cls := "RoarMill", name := "plans", desc := "(LRoarMill$State;II)V" } : Jvm.MethodName) prog_1_method_33_code (6 : Nat) (Option.none : Option Jvm.ClassFile.FieldType)) ∈ lw_all := lw_g (lw_at lw_m4 214 rfl) rfl
theorem q1017 : (Jvm.Cond.methodLink "RoarMill" (278 : Nat) ({ cls := "java/lang/System", name := "arraycopy", desc := "(Ljava/lang/Object;ILjava/lang/Object;II)V" } : Jvm.MethodName)) ∈ lw_all := lw_g (lw_at lw_m4 215 rfl) rfl
theorem q1020 : (Jvm.Cond.methodLink "RoarMill" (284 : Nat) ({ cls := "RoarMill", name := "tries", desc := "(LRoarMill$State;LRoarMill$State;I)Z" } : Jvm.MethodName)) ∈ lw_all := lw_g (lw_at lw_m4 218 rfl) rfl
theorem q1021 : (Jvm.Cond.privateMethod ({ cls := "RoarMill", name := "tries", desc := "(LRoarMill$State;LRoarMill$State;I)Z" } : Jvm.MethodName)) ∈ lw_tbl := lw_at lw_m4 219 rfl
theorem q1022 : (Jvm.Cond.instanceMethod ({ cls := "RoarMill", name := "tries", desc := "(LRoarMill$State;LRoarMill$State;I)Z" } : Jvm.MethodName)) ∈ lw_all := lw_g (lw_at lw_m4 220 rfl) rfl
theorem q1023 : (Jvm.Cond.code ({ cls := "RoarMill", name := "tries", desc := "(LRoarMill$State;LRoarMill$State;I)Z" } : Jvm.MethodName) prog_1_method_34_code (4 : Nat) (Option.some Jvm.ClassFile.FieldType.boolean)) ∈ lw_all := lw_g (lw_at lw_m4 221 rfl) rfl
theorem q1024 : (Jvm.Cond.methodLink "RoarMill" (292 : Nat) ({ cls := "RoarMill$State", name := "become", desc := "(LRoarMill$State;)V" } : Jvm.MethodName)) ∈ lw_all := lw_g (lw_at lw_m4 222 rfl) rfl
theorem q1029 : (Jvm.Cond.methodLink "RoarMill" (296 : Nat) ({ cls := "RoarMill$Settings", name := "become", desc := "(LRoarMill$Settings;)V" } : Jvm.MethodName)) ∈ lw_all := lw_g (lw_at lw_m4 227 rfl) rfl
theorem q1034 : (Jvm.Cond.instanceMethod ({ cls := "RoarMill", name := "rate", desc := "(I)I" } : Jvm.MethodName)) ∈ lw_all := lw_g (lw_at lw_m4 232 rfl) rfl
theorem q1035 : (Jvm.Cond.selects "RoarMill" ({ cls := "RoarMill", name := "rate", desc := "(I)I" } : Jvm.MethodName) ({ cls := "RoarMill", name := "rate", desc := "(I)I" } : Jvm.MethodName)) ∈ lw_all := lw_g (lw_at lw_m4 233 rfl) rfl
theorem q1036 : (Jvm.Cond.code ({ cls := "RoarMill", name := "rate", desc := "(I)I" } : Jvm.MethodName) prog_1_method_36_code (2 : Nat) (Option.some Jvm.ClassFile.FieldType.int)) ∈ lw_all := lw_g (lw_at lw_m4 234 rfl) rfl
theorem q1038 : (Jvm.Cond.instanceMethod ({ cls := "RoarMill", name := "rule", desc := "(I)I" } : Jvm.MethodName)) ∈ lw_all := lw_g (lw_at lw_m4 236 rfl) rfl
theorem q1039 : (Jvm.Cond.selects "RoarMill" ({ cls := "RoarMill", name := "rule", desc := "(I)I" } : Jvm.MethodName) ({ cls := "RoarMill", name := "rule", desc := "(I)I" } : Jvm.MethodName)) ∈ lw_all := lw_g (lw_at lw_m4 237 rfl) rfl
theorem q1040 : (Jvm.Cond.code ({ cls := "RoarMill", name := "rule", desc := "(I)I" } : Jvm.MethodName) prog_1_method_39_code (3 : Nat) (Option.some Jvm.ClassFile.FieldType.int)) ∈ lw_all := lw_g (lw_at lw_m4 238 rfl) rfl
theorem q1041 : (Jvm.Cond.methodLink "RoarMill" (299 : Nat) ({ cls := "RoarMill", name := "ruleWhy", desc := "(I)I" } : Jvm.MethodName)) ∈ lw_all := lw_g (lw_at lw_m4 239 rfl) rfl
theorem q1042 : (Jvm.Cond.privateMethod ({ cls := "RoarMill", name := "ruleWhy", desc := "(I)I" } : Jvm.MethodName)) ∈ lw_tbl := lw_at lw_m5 0 rfl
theorem q1043 : (Jvm.Cond.instanceMethod ({ cls := "RoarMill", name := "ruleWhy", desc := "(I)I" } : Jvm.MethodName)) ∈ lw_all := lw_g (lw_at lw_m5 1 rfl) rfl
theorem q1044 : (Jvm.Cond.code ({ cls := "RoarMill", name := "ruleWhy", desc := "(I)I" } : Jvm.MethodName) prog_1_method_38_code (2 : Nat) (Option.some Jvm.ClassFile.FieldType.int)) ∈ lw_all := lw_g (lw_at lw_m5 2 rfl) rfl
theorem q1045 : (Jvm.Cond.methodLink "RoarMill" (302 : Nat) ({ cls := "RoarMill", name := "ruled", desc := "(I)LRoarMill$State;" } : Jvm.MethodName)) ∈ lw_all := lw_g (lw_at lw_m5 3 rfl) rfl
theorem q1046 : (Jvm.Cond.privateMethod ({ cls := "RoarMill", name := "ruled", desc := "(I)LRoarMill$State;" } : Jvm.MethodName)) ∈ lw_tbl := lw_at lw_m5 4 rfl
theorem q1047 : (Jvm.Cond.instanceMethod ({ cls := "RoarMill", name := "ruled", desc := "(I)LRoarMill$State;" } : Jvm.MethodName)) ∈ lw_all := lw_g (lw_at lw_m5 5 rfl) rfl
theorem q1048 : (Jvm.Cond.code ({ cls := "RoarMill", name := "ruled", desc := "(I)LRoarMill$State;" } : Jvm.MethodName) prog_1_method_37_code (5 : Nat) (Option.some (Jvm.ClassFile.FieldType.object "RoarMill$State"))) ∈ lw_all := lw_g (lw_at lw_m5 6 rfl) rfl
theorem q1050 : (Jvm.Cond.instanceMethod ({ cls := "RoarMill", name := "lacks", desc := "(I)I" } : Jvm.MethodName)) ∈ lw_all := lw_g (lw_at lw_m5 8 rfl) rfl
theorem q1051 : (Jvm.Cond.selects "RoarMill" ({ cls := "RoarMill", name := "lacks", desc := "(I)I" } : Jvm.MethodName) ({ cls := "RoarMill", name := "lacks", desc := "(I)I" } : Jvm.MethodName)) ∈ lw_all := lw_g (lw_at lw_m5 9 rfl) rfl
theorem q1052 : (Jvm.Cond.code ({ cls := "RoarMill", name := "lacks", desc := "(I)I" } : Jvm.MethodName) prog_1_method_40_code (3 : Nat) (Option.some Jvm.ClassFile.FieldType.int)) ∈ lw_all := lw_g (lw_at lw_m5 10 rfl) rfl
theorem q1054 : (Jvm.Cond.instanceMethod ({ cls := "RoarMill", name := "number", desc := "(ZI)I" } : Jvm.MethodName)) ∈ lw_all := lw_g (lw_at lw_m5 12 rfl) rfl
theorem q1055 : (Jvm.Cond.selects "RoarMill" ({ cls := "RoarMill", name := "number", desc := "(ZI)I" } : Jvm.MethodName) ({ cls := "RoarMill", name := "number", desc := "(ZI)I" } : Jvm.MethodName)) ∈ lw_all := lw_g (lw_at lw_m5 13 rfl) rfl
theorem q1056 : (Jvm.Cond.code ({ cls := "RoarMill", name := "number", desc := "(ZI)I" } : Jvm.MethodName) prog_1_method_41_code (4 : Nat) (Option.some Jvm.ClassFile.FieldType.int)) ∈ lw_all := lw_g (lw_at lw_m5 14 rfl) rfl
theorem q1058 : (Jvm.Cond.instanceMethod ({ cls := "RoarMill", name := "chance", desc := "()I" } : Jvm.MethodName)) ∈ lw_all := lw_g (lw_at lw_m5 16 rfl) rfl
theorem q1059 : (Jvm.Cond.selects "RoarMill" ({ cls := "RoarMill", name := "chance", desc := "()I" } : Jvm.MethodName) ({ cls := "RoarMill", name := "chance", desc := "()I" } : Jvm.MethodName)) ∈ lw_all := lw_g (lw_at lw_m5 17 rfl) rfl
theorem q1060 : (Jvm.Cond.code ({ cls := "RoarMill", name := "chance", desc := "()I" } : Jvm.MethodName) prog_1_method_45_code (1 : Nat) (Option.some Jvm.ClassFile.FieldType.int)) ∈ lw_all := lw_g (lw_at lw_m5 18 rfl) rfl
theorem q1061 : (Jvm.Cond.methodLink "RoarMill" (318 : Nat) ({ cls := "RoarMill", name := "isTry", desc := "()Z" } : Jvm.MethodName)) ∈ lw_all := lw_g (lw_at lw_m5 19 rfl) rfl
theorem q1062 : (Jvm.Cond.privateMethod ({ cls := "RoarMill", name := "isTry", desc := "()Z" } : Jvm.MethodName)) ∈ lw_tbl := lw_at lw_m5 20 rfl
theorem q1063 : (Jvm.Cond.instanceMethod ({ cls := "RoarMill", name := "isTry", desc := "()Z" } : Jvm.MethodName)) ∈ lw_all := lw_g (lw_at lw_m5 21 rfl) rfl
theorem q1064 : (Jvm.Cond.code ({ cls := "RoarMill", name := "isTry", desc := "()Z" } : Jvm.MethodName) prog_1_method_44_code (1 : Nat) (Option.some Jvm.ClassFile.FieldType.boolean)) ∈ lw_all := lw_g (lw_at lw_m5 22 rfl) rfl
theorem q1065 : (Jvm.Cond.methodLink "RoarMill" (322 : Nat) ({ cls := "RoarMill$Row", name := "sum", desc := "()I" } : Jvm.MethodName)) ∈ lw_all := lw_g (lw_at lw_m5 23 rfl) rfl
theorem q1069 : (Jvm.Cond.methodLink "RoarMill" (315 : Nat) ({ cls := "RoarMill", name := "waysTo", desc := "(III)I" } : Jvm.MethodName)) ∈ lw_all := lw_g (lw_at lw_m5 27 rfl) rfl
theorem q1070 : (Jvm.Cond.privateMethod ({ cls := "RoarMill", name := "waysTo", desc := "(III)I" } : Jvm.MethodName)) ∈ lw_tbl := lw_at lw_m5 28 rfl
theorem q1071 : (Jvm.Cond.instanceMethod ({ cls := "RoarMill", name := "waysTo", desc := "(III)I" } : Jvm.MethodName)) ∈ lw_all := lw_g (lw_at lw_m5 29 rfl) rfl
theorem q1072 : (Jvm.Cond.code ({ cls := "RoarMill", name := "waysTo", desc := "(III)I" } : Jvm.MethodName) prog_1_method_43_code (4 : Nat) (Option.some Jvm.ClassFile.FieldType.int)) ∈ lw_all := lw_g (lw_at lw_m5 30 rfl) rfl
theorem q1073 : (Jvm.Cond.methodLink "RoarMill" (312 : Nat) ({ cls := "RoarMill", name := "numberAt", desc := "(I)I" } : Jvm.MethodName)) ∈ lw_all := lw_g (lw_at lw_m5 31 rfl) rfl
theorem q1074 : (Jvm.Cond.privateMethod ({ cls := "RoarMill", name := "numberAt", desc := "(I)I" } : Jvm.MethodName)) ∈ lw_tbl := lw_at lw_m5 32 rfl
theorem q1075 : (Jvm.Cond.instanceMethod ({ cls := "RoarMill", name := "numberAt", desc := "(I)I" } : Jvm.MethodName)) ∈ lw_all := lw_g (lw_at lw_m5 33 rfl) rfl
theorem q1076 : (Jvm.Cond.code ({ cls := "RoarMill", name := "numberAt", desc := "(I)I" } : Jvm.MethodName) prog_1_method_42_code (2 : Nat) (Option.some Jvm.ClassFile.FieldType.int)) ∈ lw_all := lw_g (lw_at lw_m5 34 rfl) rfl
theorem q1077 : (Jvm.Cond.methodLink "RoarMill" (309 : Nat) ({ cls := "RoarMill$Row", name := "at", desc := "(I)I" } : Jvm.MethodName)) ∈ lw_all := lw_g (lw_at lw_m5 35 rfl) rfl
theorem q1082 : (Jvm.Cond.instanceMethod ({ cls := "RoarMill", name := "splits", desc := "()I" } : Jvm.MethodName)) ∈ lw_all := lw_g (lw_at lw_m5 40 rfl) rfl
theorem q1083 : (Jvm.Cond.selects "RoarMill" ({ cls := "RoarMill", name := "splits", desc := "()I" } : Jvm.MethodName) ({ cls := "RoarMill", name := "splits", desc := "()I" } : Jvm.MethodName)) ∈ lw_all := lw_g (lw_at lw_m5 41 rfl) rfl
theorem q1084 : (Jvm.Cond.code ({ cls := "RoarMill", name := "splits", desc := "()I" } : Jvm.MethodName) prog_1_method_46_code (1 : Nat) (Option.some Jvm.ClassFile.FieldType.int)) ∈ lw_all := lw_g (lw_at lw_m5 42 rfl) rfl
theorem q1086 : (Jvm.Cond.instanceMethod ({ cls := "RoarMill", name := "clear", desc := "()I" } : Jvm.MethodName)) ∈ lw_all := lw_g (lw_at lw_m5 44 rfl) rfl
theorem q1087 : (Jvm.Cond.selects "RoarMill" ({ cls := "RoarMill", name := "clear", desc := "()I" } : Jvm.MethodName) ({ cls := "RoarMill", name := "clear", desc := "()I" } : Jvm.MethodName)) ∈ lw_all := lw_g (lw_at lw_m5 45 rfl) rfl
theorem q1088 : (Jvm.Cond.code ({ cls := "RoarMill", name := "clear", desc := "()I" } : Jvm.MethodName) prog_1_method_47_code (2 : Nat) (Option.some Jvm.ClassFile.FieldType.int)) ∈ lw_all := lw_g (lw_at lw_m5 46 rfl) rfl
theorem q1090 : (Jvm.Cond.instanceMethod ({ cls := "RoarMill", name := "marks", desc := "(IIIIII)I" } : Jvm.MethodName)) ∈ lw_all := lw_g (lw_at lw_m5 48 rfl) rfl
theorem q1091 : (Jvm.Cond.selects "RoarMill" ({ cls := "RoarMill", name := "marks", desc := "(IIIIII)I" } : Jvm.MethodName) ({ cls := "RoarMill", name := "marks", desc := "(IIIIII)I" } : Jvm.MethodName)) ∈ lw_all := lw_g (lw_at lw_m5 49 rfl) rfl
theorem q1092 : (Jvm.Cond.code ({ cls := "RoarMill", name := "marks", desc := "(IIIIII)I" } : Jvm.MethodName) prog_1_method_48_code (8 : Nat) (Option.some Jvm.ClassFile.FieldType.int)) ∈ lw_all := lw_g (lw_at lw_m5 50 rfl) rfl
theorem q1093 : (Jvm.Cond.methodLink "RoarMill" (326 : Nat) ({ cls := "RoarMill$Led", name := "begins", desc := "(I)V" } : Jvm.MethodName)) ∈ lw_all := lw_g (lw_at lw_m5 51 rfl) rfl
theorem q1099 : (Jvm.Cond.instanceMethod ({ cls := "RoarMill", name := "size", desc := "(I)I" } : Jvm.MethodName)) ∈ lw_all := lw_g (lw_at lw_m5 57 rfl) rfl
theorem q1100 : (Jvm.Cond.selects "RoarMill" ({ cls := "RoarMill", name := "size", desc := "(I)I" } : Jvm.MethodName) ({ cls := "RoarMill", name := "size", desc := "(I)I" } : Jvm.MethodName)) ∈ lw_all := lw_g (lw_at lw_m5 58 rfl) rfl
theorem q1101 : (Jvm.Cond.code ({ cls := "RoarMill", name := "size", desc := "(I)I" } : Jvm.MethodName) prog_1_method_50_code (2 : Nat) (Option.some Jvm.ClassFile.FieldType.int)) ∈ lw_all := lw_g (lw_at lw_m5 59 rfl) rfl
theorem q1103 : (Jvm.Cond.instanceMethod ({ cls := "RoarMill", name := "trouble", desc := "()I" } : Jvm.MethodName)) ∈ lw_all := lw_g (lw_at lw_m5 61 rfl) rfl
theorem q1104 : (Jvm.Cond.selects "RoarMill" ({ cls := "RoarMill", name := "trouble", desc := "()I" } : Jvm.MethodName) ({ cls := "RoarMill", name := "trouble", desc := "()I" } : Jvm.MethodName)) ∈ lw_all := lw_g (lw_at lw_m5 62 rfl) rfl
theorem q1105 : (Jvm.Cond.code ({ cls := "RoarMill", name := "trouble", desc := "()I" } : Jvm.MethodName) prog_1_method_51_code (1 : Nat) (Option.some Jvm.ClassFile.FieldType.int)) ∈ lw_all := lw_g (lw_at lw_m5 63 rfl) rfl
theorem q1111 : (Jvm.Cond.instanceMethod ({ cls := "RoarMill", name := "led", desc := "(I)I" } : Jvm.MethodName)) ∈ lw_all := lw_g (lw_at lw_m5 69 rfl) rfl
theorem q1112 : (Jvm.Cond.selects "RoarMill" ({ cls := "RoarMill", name := "led", desc := "(I)I" } : Jvm.MethodName) ({ cls := "RoarMill", name := "led", desc := "(I)I" } : Jvm.MethodName)) ∈ lw_all := lw_g (lw_at lw_m5 70 rfl) rfl
theorem q1113 : (Jvm.Cond.code ({ cls := "RoarMill", name := "led", desc := "(I)I" } : Jvm.MethodName) prog_1_method_49_code (2 : Nat) (Option.some Jvm.ClassFile.FieldType.int)) ∈ lw_all := lw_g (lw_at lw_m5 71 rfl) rfl
theorem q1114 : (Jvm.Cond.classLink "RoarMill" (331 : Nat) "java/util/NoSuchElementException") ∈ lw_all := lw_g (lw_at lw_m5 72 rfl) rfl
theorem q1123 : (Jvm.Cond.methodLink "RoarMill" (333 : Nat) ({ cls := "java/util/NoSuchElementException", name := "<init>", desc := "()V" } : Jvm.MethodName)) ∈ lw_all := lw_g (lw_at lw_m5 81 rfl) rfl
theorem q1695 : (Jvm.Cond.castable "RoarMill" "java/lang/Object") ∈ lw_tbl := lw_at lw_m7 173 rfl
theorem in_X1 : ∀ w ∈ wsX10, w ∈ lw_all := lw_in wsX10 [393, 395, 397, 399, 401, 403, 405, 407, 409, 411, 413, 415, 417, 419, 421, 423, 425, 427, 429, 431, 433, 435, 437, 439, 441, 443, 445, 447, 449] (by decide +kernel) (by decide +kernel)

