/-! RoarMillLaw -/
set_option maxRecDepth 100000
def RX0 : String := "RoarMillLaw"
abbrev cX0_led : ByteArray := method_3_code
def yX0_led : MethodName := ⟨RX0, "led", "(LRoarMill;I[J)I"⟩
def dkwX0_led_0 : List UInt8 := [44, 3, 42, 27, 182, 0, 7, 133, 80, 167, 0, 6, 78, 4, 172, 3, 172]
abbrev dktX0_led_0 : List UInt8 := dkwX0_led_0 ++ []
theorem dksX0_led_0 : cX0_led.data.toList.drop 0 = dktX0_led_0 := by decide +kernel
theorem dX0_led_0 : decode cX0_led 0 = .ok (.aload_n 2, 1) := dk_44 (dk_at dksX0_led_0 0 rfl rfl)
theorem dX0_led_1 : decode cX0_led 1 = .ok (.iconst 0, 1) := dk_3 (dk_at dksX0_led_0 1 rfl rfl)
theorem dX0_led_2 : decode cX0_led 2 = .ok (.aload_n 0, 1) := dk_42 (dk_at dksX0_led_0 2 rfl rfl)
theorem dX0_led_3 : decode cX0_led 3 = .ok (.iload_n 1, 1) := dk_27 (dk_at dksX0_led_0 3 rfl rfl)
theorem dX0_led_4 : decode cX0_led 4 = .ok (.invokevirtual 7, 3) := dk_182 0 7 (dk_at dksX0_led_0 4 rfl rfl)
theorem dX0_led_7 : decode cX0_led 7 = .ok (.i2l, 1) := dk_133 (dk_at dksX0_led_0 7 rfl rfl)
theorem dX0_led_8 : decode cX0_led 8 = .ok (.lastore, 1) := dk_80 (dk_at dksX0_led_0 8 rfl rfl)
theorem dX0_led_9 : decode cX0_led 9 = .ok (.goto 6, 3) := dk_167 0 6 (dk_at dksX0_led_0 9 rfl rfl)
theorem dX0_led_12 : decode cX0_led 12 = .ok (.astore_n 3, 1) := dk_78 (dk_at dksX0_led_0 12 rfl rfl)
theorem dX0_led_13 : decode cX0_led 13 = .ok (.iconst 1, 1) := dk_4 (dk_at dksX0_led_0 13 rfl rfl)
theorem dX0_led_14 : decode cX0_led 14 = .ok (.ireturn, 1) := dk_172 (dk_at dksX0_led_0 14 rfl rfl)
theorem dX0_led_15 : decode cX0_led 15 = .ok (.iconst 0, 1) := dk_3 (dk_at dksX0_led_0 15 rfl rfl)
theorem dX0_led_16 : decode cX0_led 16 = .ok (.ireturn, 1) := dk_172 (dk_at dksX0_led_0 16 rfl rfl)
theorem q82 : (Jvm.Cond.initialized "RoarMillLaw") ∈ lw_all := lw_g (lw_at lw_m1 0 rfl) rfl
theorem q107 : (Jvm.Cond.classLink "RoarMillLaw" (8 : Nat) "RoarMill") ∈ lw_all := lw_g (lw_at lw_m1 25 rfl) rfl
theorem q109 : (Jvm.Cond.methodLink "RoarMillLaw" (15 : Nat) ({ cls := "RoarMill", name := "<init>", desc := "()V" } : Jvm.MethodName)) ∈ lw_all := lw_g (lw_at lw_m1 27 rfl) rfl
theorem q452 : (Jvm.Cond.methodLink "RoarMillLaw" (19 : Nat) ({ cls := "RoarMill", name := "feed", desc := "(IIIII)I" } : Jvm.MethodName)) ∈ lw_all := lw_g (lw_at lw_m2 130 rfl) rfl
theorem q460 : (Jvm.Cond.methodLink "RoarMillLaw" (24 : Nat) ({ cls := "RoarMill", name := "mill", desc := "(I)I" } : Jvm.MethodName)) ∈ lw_all := lw_g (lw_at lw_m2 138 rfl) rfl
theorem q862 : (Jvm.Cond.methodLink "RoarMillLaw" (28 : Nat) ({ cls := "RoarMill", name := "fault", desc := "()I" } : Jvm.MethodName)) ∈ lw_all := lw_g (lw_at lw_m4 60 rfl) rfl
theorem q866 : (Jvm.Cond.methodLink "RoarMillLaw" (33 : Nat) ({ cls := "RoarMill", name := "where", desc := "()I" } : Jvm.MethodName)) ∈ lw_all := lw_g (lw_at lw_m4 64 rfl) rfl
theorem q870 : (Jvm.Cond.methodLink "RoarMillLaw" (37 : Nat) ({ cls := "RoarMill", name := "set", desc := "(III)Z" } : Jvm.MethodName)) ∈ lw_all := lw_g (lw_at lw_m4 68 rfl) rfl
theorem q885 : (Jvm.Cond.methodLink "RoarMillLaw" (42 : Nat) ({ cls := "RoarMill", name := "mend", desc := "(IZ)Z" } : Jvm.MethodName)) ∈ lw_all := lw_g (lw_at lw_m4 83 rfl) rfl
theorem q889 : (Jvm.Cond.methodLink "RoarMillLaw" (47 : Nat) ({ cls := "RoarMill", name := "go", desc := "(I)I" } : Jvm.MethodName)) ∈ lw_all := lw_g (lw_at lw_m4 87 rfl) rfl
theorem q936 : (Jvm.Cond.methodLink "RoarMillLaw" (51 : Nat) ({ cls := "RoarMill", name := "tons", desc := "(II)I" } : Jvm.MethodName)) ∈ lw_all := lw_g (lw_at lw_m4 134 rfl) rfl
theorem q940 : (Jvm.Cond.methodLink "RoarMillLaw" (56 : Nat) ({ cls := "RoarMill", name := "state", desc := "(I)I" } : Jvm.MethodName)) ∈ lw_all := lw_g (lw_at lw_m4 138 rfl) rfl
theorem q944 : (Jvm.Cond.methodLink "RoarMillLaw" (60 : Nat) ({ cls := "RoarMill", name := "program", desc := "(IIII)Z" } : Jvm.MethodName)) ∈ lw_all := lw_g (lw_at lw_m4 142 rfl) rfl
theorem q948 : (Jvm.Cond.methodLink "RoarMillLaw" (65 : Nat) ({ cls := "RoarMill", name := "seen", desc := "(IIII)I" } : Jvm.MethodName)) ∈ lw_all := lw_g (lw_at lw_m4 146 rfl) rfl
theorem q957 : (Jvm.Cond.methodLink "RoarMillLaw" (70 : Nat) ({ cls := "RoarMill", name := "forget", desc := "()I" } : Jvm.MethodName)) ∈ lw_all := lw_g (lw_at lw_m4 155 rfl) rfl
theorem q961 : (Jvm.Cond.methodLink "RoarMillLaw" (74 : Nat) ({ cls := "RoarMill", name := "fits", desc := "()I" } : Jvm.MethodName)) ∈ lw_all := lw_g (lw_at lw_m4 159 rfl) rfl
theorem q985 : (Jvm.Cond.methodLink "RoarMillLaw" (78 : Nat) ({ cls := "RoarMill", name := "fitAt", desc := "(II)I" } : Jvm.MethodName)) ∈ lw_all := lw_g (lw_at lw_m4 183 rfl) rfl
theorem q992 : (Jvm.Cond.methodLink "RoarMillLaw" (82 : Nat) ({ cls := "RoarMill", name := "certain", desc := "(I)I" } : Jvm.MethodName)) ∈ lw_all := lw_g (lw_at lw_m4 190 rfl) rfl
theorem q996 : (Jvm.Cond.methodLink "RoarMillLaw" (86 : Nat) ({ cls := "RoarMill", name := "guess", desc := "(IIIII)I" } : Jvm.MethodName)) ∈ lw_all := lw_g (lw_at lw_m4 194 rfl) rfl
theorem q1004 : (Jvm.Cond.methodLink "RoarMillLaw" (90 : Nat) ({ cls := "RoarMill", name := "swapped", desc := "()I" } : Jvm.MethodName)) ∈ lw_all := lw_g (lw_at lw_m4 202 rfl) rfl
theorem q1008 : (Jvm.Cond.methodLink "RoarMillLaw" (94 : Nat) ({ cls := "RoarMill", name := "plan", desc := "(I)I" } : Jvm.MethodName)) ∈ lw_all := lw_g (lw_at lw_m4 206 rfl) rfl
theorem q1033 : (Jvm.Cond.methodLink "RoarMillLaw" (98 : Nat) ({ cls := "RoarMill", name := "rate", desc := "(I)I" } : Jvm.MethodName)) ∈ lw_all := lw_g (lw_at lw_m4 231 rfl) rfl
theorem q1037 : (Jvm.Cond.methodLink "RoarMillLaw" (102 : Nat) ({ cls := "RoarMill", name := "rule", desc := "(I)I" } : Jvm.MethodName)) ∈ lw_all := lw_g (lw_at lw_m4 235 rfl) rfl
theorem q1049 : (Jvm.Cond.methodLink "RoarMillLaw" (106 : Nat) ({ cls := "RoarMill", name := "lacks", desc := "(I)I" } : Jvm.MethodName)) ∈ lw_all := lw_g (lw_at lw_m5 7 rfl) rfl
theorem q1053 : (Jvm.Cond.methodLink "RoarMillLaw" (110 : Nat) ({ cls := "RoarMill", name := "number", desc := "(ZI)I" } : Jvm.MethodName)) ∈ lw_all := lw_g (lw_at lw_m5 11 rfl) rfl
theorem q1057 : (Jvm.Cond.methodLink "RoarMillLaw" (115 : Nat) ({ cls := "RoarMill", name := "chance", desc := "()I" } : Jvm.MethodName)) ∈ lw_all := lw_g (lw_at lw_m5 15 rfl) rfl
theorem q1081 : (Jvm.Cond.methodLink "RoarMillLaw" (119 : Nat) ({ cls := "RoarMill", name := "splits", desc := "()I" } : Jvm.MethodName)) ∈ lw_all := lw_g (lw_at lw_m5 39 rfl) rfl
theorem q1085 : (Jvm.Cond.methodLink "RoarMillLaw" (123 : Nat) ({ cls := "RoarMill", name := "clear", desc := "()I" } : Jvm.MethodName)) ∈ lw_all := lw_g (lw_at lw_m5 43 rfl) rfl
theorem q1089 : (Jvm.Cond.methodLink "RoarMillLaw" (127 : Nat) ({ cls := "RoarMill", name := "marks", desc := "(IIIIII)I" } : Jvm.MethodName)) ∈ lw_all := lw_g (lw_at lw_m5 47 rfl) rfl
theorem q1098 : (Jvm.Cond.methodLink "RoarMillLaw" (141 : Nat) ({ cls := "RoarMill", name := "size", desc := "(I)I" } : Jvm.MethodName)) ∈ lw_all := lw_g (lw_at lw_m5 56 rfl) rfl
theorem q1102 : (Jvm.Cond.methodLink "RoarMillLaw" (145 : Nat) ({ cls := "RoarMill", name := "trouble", desc := "()I" } : Jvm.MethodName)) ∈ lw_all := lw_g (lw_at lw_m5 60 rfl) rfl
theorem q1106 : (Jvm.Cond.methodLink "RoarMillLaw" (132 : Nat) ({ cls := "RoarMillLaw", name := "led", desc := "(LRoarMill;I[J)I" } : Jvm.MethodName)) ∈ lw_all := lw_g (lw_at lw_m5 64 rfl) rfl
theorem q1107 : (Jvm.Cond.static ({ cls := "RoarMillLaw", name := "led", desc := "(LRoarMill;I[J)I" } : Jvm.MethodName)) ∈ lw_all := lw_g (lw_at lw_m5 65 rfl) rfl
theorem q1108 : (Jvm.Cond.codeWith ({ cls := "RoarMillLaw", name := "led", desc := "(LRoarMill;I[J)I" } : Jvm.MethodName) method_3_code (4 : Nat) (Option.some Jvm.ClassFile.FieldType.int) [((0 : Nat), (9 : Nat), (12 : Nat), (13 : Nat))]) ∈ lw_all := lw_g (lw_at lw_m5 66 rfl) rfl
theorem q1109 : (Jvm.Cond.classLink "RoarMillLaw" (13 : Nat) "java/util/NoSuchElementException") ∈ lw_all := lw_g (lw_at lw_m5 67 rfl) rfl
theorem q1110 : (Jvm.Cond.methodLink "RoarMillLaw" (7 : Nat) ({ cls := "RoarMill", name := "led", desc := "(I)I" } : Jvm.MethodName)) ∈ lw_all := lw_g (lw_at lw_m5 68 rfl) rfl
theorem q1135 : (Jvm.Cond.classLink "RoarMillLaw" (16 : Nat) "RoarMillModel") ∈ lw_all := lw_g (lw_at lw_m5 93 rfl) rfl
theorem q1137 : (Jvm.Cond.methodLink "RoarMillLaw" (18 : Nat) ({ cls := "RoarMillModel", name := "<init>", desc := "()V" } : Jvm.MethodName)) ∈ lw_all := lw_g (lw_at lw_m5 95 rfl) rfl
theorem q1253 : (Jvm.Cond.methodLink "RoarMillLaw" (138 : Nat) ({ cls := "RoarMillModel", name := "thrown", desc := "()I" } : Jvm.MethodName)) ∈ lw_all := lw_g (lw_at lw_m5 211 rfl) rfl
theorem q1257 : (Jvm.Cond.methodLink "RoarMillLaw" (23 : Nat) ({ cls := "RoarMillModel", name := "feed", desc := "(IIIII)I" } : Jvm.MethodName)) ∈ lw_all := lw_g (lw_at lw_m5 215 rfl) rfl
theorem q1261 : (Jvm.Cond.methodLink "RoarMillLaw" (27 : Nat) ({ cls := "RoarMillModel", name := "mill", desc := "(I)I" } : Jvm.MethodName)) ∈ lw_all := lw_g (lw_at lw_m5 219 rfl) rfl
theorem q1486 : (Jvm.Cond.methodLink "RoarMillLaw" (32 : Nat) ({ cls := "RoarMillModel", name := "fault", desc := "()I" } : Jvm.MethodName)) ∈ lw_all := lw_g (lw_at lw_m6 204 rfl) rfl
theorem q1490 : (Jvm.Cond.methodLink "RoarMillLaw" (36 : Nat) ({ cls := "RoarMillModel", name := "where", desc := "()I" } : Jvm.MethodName)) ∈ lw_all := lw_g (lw_at lw_m6 208 rfl) rfl
theorem q1494 : (Jvm.Cond.methodLink "RoarMillLaw" (41 : Nat) ({ cls := "RoarMillModel", name := "set", desc := "(III)Z" } : Jvm.MethodName)) ∈ lw_all := lw_g (lw_at lw_m6 212 rfl) rfl
theorem q1510 : (Jvm.Cond.methodLink "RoarMillLaw" (46 : Nat) ({ cls := "RoarMillModel", name := "mend", desc := "(IZ)Z" } : Jvm.MethodName)) ∈ lw_all := lw_g (lw_at lw_m6 228 rfl) rfl
theorem q1514 : (Jvm.Cond.methodLink "RoarMillLaw" (50 : Nat) ({ cls := "RoarMillModel", name := "go", desc := "(I)I" } : Jvm.MethodName)) ∈ lw_all := lw_g (lw_at lw_m6 232 rfl) rfl
theorem q1542 : (Jvm.Cond.methodLink "RoarMillLaw" (55 : Nat) ({ cls := "RoarMillModel", name := "tons", desc := "(II)I" } : Jvm.MethodName)) ∈ lw_all := lw_g (lw_at lw_m7 20 rfl) rfl
theorem q1550 : (Jvm.Cond.methodLink "RoarMillLaw" (59 : Nat) ({ cls := "RoarMillModel", name := "state", desc := "(I)I" } : Jvm.MethodName)) ∈ lw_all := lw_g (lw_at lw_m7 28 rfl) rfl
theorem q1554 : (Jvm.Cond.methodLink "RoarMillLaw" (64 : Nat) ({ cls := "RoarMillModel", name := "program", desc := "(IIII)Z" } : Jvm.MethodName)) ∈ lw_all := lw_g (lw_at lw_m7 32 rfl) rfl
theorem q1558 : (Jvm.Cond.methodLink "RoarMillLaw" (69 : Nat) ({ cls := "RoarMillModel", name := "seen", desc := "(IIII)I" } : Jvm.MethodName)) ∈ lw_all := lw_g (lw_at lw_m7 36 rfl) rfl
theorem q1567 : (Jvm.Cond.methodLink "RoarMillLaw" (73 : Nat) ({ cls := "RoarMillModel", name := "forget", desc := "()I" } : Jvm.MethodName)) ∈ lw_all := lw_g (lw_at lw_m7 45 rfl) rfl
theorem q1571 : (Jvm.Cond.methodLink "RoarMillLaw" (77 : Nat) ({ cls := "RoarMillModel", name := "fits", desc := "()I" } : Jvm.MethodName)) ∈ lw_all := lw_g (lw_at lw_m7 49 rfl) rfl
theorem q1598 : (Jvm.Cond.methodLink "RoarMillLaw" (81 : Nat) ({ cls := "RoarMillModel", name := "fitAt", desc := "(II)I" } : Jvm.MethodName)) ∈ lw_all := lw_g (lw_at lw_m7 76 rfl) rfl
theorem q1605 : (Jvm.Cond.methodLink "RoarMillLaw" (85 : Nat) ({ cls := "RoarMillModel", name := "certain", desc := "(I)I" } : Jvm.MethodName)) ∈ lw_all := lw_g (lw_at lw_m7 83 rfl) rfl
theorem q1609 : (Jvm.Cond.methodLink "RoarMillLaw" (89 : Nat) ({ cls := "RoarMillModel", name := "guess", desc := "(IIIII)I" } : Jvm.MethodName)) ∈ lw_all := lw_g (lw_at lw_m7 87 rfl) rfl
theorem q1616 : (Jvm.Cond.methodLink "RoarMillLaw" (93 : Nat) ({ cls := "RoarMillModel", name := "swapped", desc := "()I" } : Jvm.MethodName)) ∈ lw_all := lw_g (lw_at lw_m7 94 rfl) rfl
theorem q1620 : (Jvm.Cond.methodLink "RoarMillLaw" (97 : Nat) ({ cls := "RoarMillModel", name := "plan", desc := "(I)I" } : Jvm.MethodName)) ∈ lw_all := lw_g (lw_at lw_m7 98 rfl) rfl
theorem q1632 : (Jvm.Cond.methodLink "RoarMillLaw" (101 : Nat) ({ cls := "RoarMillModel", name := "rate", desc := "(I)I" } : Jvm.MethodName)) ∈ lw_all := lw_g (lw_at lw_m7 110 rfl) rfl
theorem q1636 : (Jvm.Cond.methodLink "RoarMillLaw" (105 : Nat) ({ cls := "RoarMillModel", name := "rule", desc := "(I)I" } : Jvm.MethodName)) ∈ lw_all := lw_g (lw_at lw_m7 114 rfl) rfl
theorem q1644 : (Jvm.Cond.methodLink "RoarMillLaw" (109 : Nat) ({ cls := "RoarMillModel", name := "lacks", desc := "(I)I" } : Jvm.MethodName)) ∈ lw_all := lw_g (lw_at lw_m7 122 rfl) rfl
theorem q1648 : (Jvm.Cond.methodLink "RoarMillLaw" (114 : Nat) ({ cls := "RoarMillModel", name := "number", desc := "(ZI)I" } : Jvm.MethodName)) ∈ lw_all := lw_g (lw_at lw_m7 126 rfl) rfl
theorem q1652 : (Jvm.Cond.methodLink "RoarMillLaw" (118 : Nat) ({ cls := "RoarMillModel", name := "chance", desc := "()I" } : Jvm.MethodName)) ∈ lw_all := lw_g (lw_at lw_m7 130 rfl) rfl
theorem q1663 : (Jvm.Cond.methodLink "RoarMillLaw" (122 : Nat) ({ cls := "RoarMillModel", name := "splits", desc := "()I" } : Jvm.MethodName)) ∈ lw_all := lw_g (lw_at lw_m7 141 rfl) rfl
theorem q1667 : (Jvm.Cond.methodLink "RoarMillLaw" (126 : Nat) ({ cls := "RoarMillModel", name := "clear", desc := "()I" } : Jvm.MethodName)) ∈ lw_all := lw_g (lw_at lw_m7 145 rfl) rfl
theorem q1671 : (Jvm.Cond.methodLink "RoarMillLaw" (131 : Nat) ({ cls := "RoarMillModel", name := "marks", desc := "(IIIIII)I" } : Jvm.MethodName)) ∈ lw_all := lw_g (lw_at lw_m7 149 rfl) rfl
theorem q1682 : (Jvm.Cond.methodLink "RoarMillLaw" (137 : Nat) ({ cls := "RoarMillModel", name := "led", desc := "(I)I" } : Jvm.MethodName)) ∈ lw_all := lw_g (lw_at lw_m7 160 rfl) rfl
theorem q1686 : (Jvm.Cond.methodLink "RoarMillLaw" (144 : Nat) ({ cls := "RoarMillModel", name := "size", desc := "(I)I" } : Jvm.MethodName)) ∈ lw_all := lw_g (lw_at lw_m7 164 rfl) rfl
theorem q1690 : (Jvm.Cond.methodLink "RoarMillLaw" (148 : Nat) ({ cls := "RoarMillModel", name := "trouble", desc := "()I" } : Jvm.MethodName)) ∈ lw_all := lw_g (lw_at lw_m7 168 rfl) rfl

/-! RoarMill$Reader -/
set_option maxRecDepth 100000
def RX2 : String := "RoarMill$Reader"
def TX2 : u_T := fun k => match k with
  | 0 => ("RoarMill$Reader", "wrong", "LRoarMill$Refused;", true)
  | 1 => ("RoarMill$Reader", "text", "[B", true)
  | 2 => ("RoarMill$Reader", "letters", "[C", true)
  | 3 => ("RoarMill$Reader", "size", "I", false)
  | 4 => ("RoarMill$Reader", "end", "I", false)
  | 5 => ("RoarMill$Reader", "token", "I", false)
  | 6 => ("RoarMill$Reader", "at", "I", false)
  | 7 => ("RoarMill$Reader", "whole", "I", false)
  | 8 => ("RoarMill$Reader", "word", "Ljava/lang/String;", false)
  | _ => ("RoarMill$Reader", "works", "LRoarMill$Works;", false)
def tyX2 : Nat → FieldType := fun k => match k with
  | 0 => .object "RoarMill$Refused"
  | 1 => .array .byte
  | 2 => .array .char
  | 3 => .int
  | 4 => .int
  | 5 => .int
  | 6 => .int
  | 7 => .int
  | 8 => .object "java/lang/String"
  | _ => .object "RoarMill$Works"
abbrev wsX20 : List Cond := u_ws RX2 TX2 10
theorem nmX2 : ∀ a, a < 10 → ∀ b, b < 10 → a ≠ b → (TX2 a).2.1 ≠ (TX2 b).2.1 := by decide +kernel
theorem tyX2_ok : ∀ k, k < 10 → parseFieldDescriptor (TX2 k).2.2.1 = some (tyX2 k) := by decide +kernel
abbrev cX2_init : ByteArray := prog_6_method_1_code
def yX2_init : MethodName := ⟨RX2, "<init>", "([B)V"⟩
def dkwX2_init_1 : List UInt8 := [43, 181, 0, 22, 177]
abbrev dktX2_init_1 : List UInt8 := dkwX2_init_1 ++ []
def dkwX2_init_0 : List UInt8 := [42, 183, 0, 3, 42, 187, 0, 9, 89, 183, 0, 11, 181, 0, 12, 42, 16, 8, 188, 5, 181, 0, 18, 42]
abbrev dktX2_init_0 : List UInt8 := dkwX2_init_0 ++ dktX2_init_1
theorem dksX2_init_0 : cX2_init.data.toList.drop 0 = dktX2_init_0 := by decide +kernel
theorem dksX2_init_1 : cX2_init.data.toList.drop 24 = dktX2_init_1 := dk_seg dksX2_init_0 24 rfl rfl
theorem dX2_init_0 : decode cX2_init 0 = .ok (.aload_n 0, 1) := dk_42 (dk_at dksX2_init_0 0 rfl rfl)
theorem dX2_init_1 : decode cX2_init 1 = .ok (.invokespecial 3, 3) := dk_183 0 3 (dk_at dksX2_init_0 1 rfl rfl)
theorem dX2_init_4 : decode cX2_init 4 = .ok (.aload_n 0, 1) := dk_42 (dk_at dksX2_init_0 4 rfl rfl)
theorem dX2_init_5 : decode cX2_init 5 = .ok (.new 9, 3) := dk_187 0 9 (dk_at dksX2_init_0 5 rfl rfl)
theorem dX2_init_8 : decode cX2_init 8 = .ok (.dup, 1) := dk_89 (dk_at dksX2_init_0 8 rfl rfl)
theorem dX2_init_9 : decode cX2_init 9 = .ok (.invokespecial 11, 3) := dk_183 0 11 (dk_at dksX2_init_0 9 rfl rfl)
theorem dX2_init_12 : decode cX2_init 12 = .ok (.putfield 12, 3) := dk_181 0 12 (dk_at dksX2_init_0 12 rfl rfl)
theorem dX2_init_15 : decode cX2_init 15 = .ok (.aload_n 0, 1) := dk_42 (dk_at dksX2_init_0 15 rfl rfl)
theorem dX2_init_16 : decode cX2_init 16 = .ok (.bipush 8, 2) := dk_16 8 (dk_at dksX2_init_0 16 rfl rfl)
theorem dX2_init_18 : decode cX2_init 18 = .ok (.newarray .char, 2) := dk_188_5 (dk_at dksX2_init_0 18 rfl rfl)
theorem dX2_init_20 : decode cX2_init 20 = .ok (.putfield 18, 3) := dk_181 0 18 (dk_at dksX2_init_0 20 rfl rfl)
theorem dX2_init_23 : decode cX2_init 23 = .ok (.aload_n 0, 1) := dk_42 (dk_at dksX2_init_0 23 rfl rfl)
theorem dX2_init_24 : decode cX2_init 24 = .ok (.aload_n 1, 1) := dk_43 (dk_at dksX2_init_1 0 rfl rfl)
theorem dX2_init_25 : decode cX2_init 25 = .ok (.putfield 22, 3) := dk_181 0 22 (dk_at dksX2_init_1 1 rfl rfl)
theorem dX2_init_28 : decode cX2_init 28 = .ok (.return_, 1) := dk_177 (dk_at dksX2_init_1 4 rfl rfl)
abbrev cX2_read : ByteArray := prog_6_method_14_code
def yX2_read : MethodName := ⟨RX2, "read", "(I)LRoarMill$Works;"⟩
def dkwX2_read_3 : List UInt8 := [153, 0, 10, 42, 16, 6, 182, 0, 85, 191, 42, 180, 0, 109, 176]
abbrev dktX2_read_3 : List UInt8 := dkwX2_read_3 ++ []
def dkwX2_read_2 : List UInt8 := [167, 255, 239, 42, 180, 0, 47, 153, 0, 9, 42, 4, 182, 0, 85, 191, 42, 180, 0, 109, 182, 0, 123]
abbrev dktX2_read_2 : List UInt8 := dkwX2_read_2 ++ dktX2_read_3
def dkwX2_read_1 : List UInt8 := [182, 0, 79, 42, 182, 0, 120, 42, 180, 0, 47, 16, 59, 160, 0, 14, 42, 182, 0, 79, 42, 182, 0, 120]
abbrev dktX2_read_1 : List UInt8 := dkwX2_read_1 ++ dktX2_read_2
def dkwX2_read_0 : List UInt8 := [42, 27, 181, 0, 33, 42, 3, 181, 0, 40, 42, 187, 0, 114, 89, 183, 0, 119, 181, 0, 109, 42]
abbrev dktX2_read_0 : List UInt8 := dkwX2_read_0 ++ dktX2_read_1
theorem dksX2_read_0 : cX2_read.data.toList.drop 0 = dktX2_read_0 := by decide +kernel
theorem dksX2_read_1 : cX2_read.data.toList.drop 22 = dktX2_read_1 := dk_seg dksX2_read_0 22 rfl rfl
theorem dksX2_read_2 : cX2_read.data.toList.drop 46 = dktX2_read_2 := dk_seg dksX2_read_1 24 rfl rfl
theorem dksX2_read_3 : cX2_read.data.toList.drop 69 = dktX2_read_3 := dk_seg dksX2_read_2 23 rfl rfl
theorem dX2_read_0 : decode cX2_read 0 = .ok (.aload_n 0, 1) := dk_42 (dk_at dksX2_read_0 0 rfl rfl)
theorem dX2_read_1 : decode cX2_read 1 = .ok (.iload_n 1, 1) := dk_27 (dk_at dksX2_read_0 1 rfl rfl)
theorem dX2_read_2 : decode cX2_read 2 = .ok (.putfield 33, 3) := dk_181 0 33 (dk_at dksX2_read_0 2 rfl rfl)
theorem dX2_read_5 : decode cX2_read 5 = .ok (.aload_n 0, 1) := dk_42 (dk_at dksX2_read_0 5 rfl rfl)
theorem dX2_read_6 : decode cX2_read 6 = .ok (.iconst 0, 1) := dk_3 (dk_at dksX2_read_0 6 rfl rfl)
theorem dX2_read_7 : decode cX2_read 7 = .ok (.putfield 40, 3) := dk_181 0 40 (dk_at dksX2_read_0 7 rfl rfl)
theorem dX2_read_10 : decode cX2_read 10 = .ok (.aload_n 0, 1) := dk_42 (dk_at dksX2_read_0 10 rfl rfl)
theorem dX2_read_11 : decode cX2_read 11 = .ok (.new 114, 3) := dk_187 0 114 (dk_at dksX2_read_0 11 rfl rfl)
theorem dX2_read_14 : decode cX2_read 14 = .ok (.dup, 1) := dk_89 (dk_at dksX2_read_0 14 rfl rfl)
theorem dX2_read_15 : decode cX2_read 15 = .ok (.invokespecial 119, 3) := dk_183 0 119 (dk_at dksX2_read_0 15 rfl rfl)
theorem dX2_read_18 : decode cX2_read 18 = .ok (.putfield 109, 3) := dk_181 0 109 (dk_at dksX2_read_0 18 rfl rfl)
theorem dX2_read_21 : decode cX2_read 21 = .ok (.aload_n 0, 1) := dk_42 (dk_at dksX2_read_0 21 rfl rfl)
theorem dX2_read_22 : decode cX2_read 22 = .ok (.invokevirtual 79, 3) := dk_182 0 79 (dk_at dksX2_read_1 0 rfl rfl)
theorem dX2_read_25 : decode cX2_read 25 = .ok (.aload_n 0, 1) := dk_42 (dk_at dksX2_read_1 3 rfl rfl)
theorem dX2_read_26 : decode cX2_read 26 = .ok (.invokevirtual 120, 3) := dk_182 0 120 (dk_at dksX2_read_1 4 rfl rfl)
theorem dX2_read_29 : decode cX2_read 29 = .ok (.aload_n 0, 1) := dk_42 (dk_at dksX2_read_1 7 rfl rfl)
theorem dX2_read_30 : decode cX2_read 30 = .ok (.getfield 47, 3) := dk_180 0 47 (dk_at dksX2_read_1 8 rfl rfl)
theorem dX2_read_33 : decode cX2_read 33 = .ok (.bipush 59, 2) := dk_16 59 (dk_at dksX2_read_1 11 rfl rfl)
theorem dX2_read_35 : decode cX2_read 35 = .ok (.if_icmp .ne 14, 3) := dk_160 0 14 (dk_at dksX2_read_1 13 rfl rfl)
theorem dX2_read_38 : decode cX2_read 38 = .ok (.aload_n 0, 1) := dk_42 (dk_at dksX2_read_1 16 rfl rfl)
theorem dX2_read_39 : decode cX2_read 39 = .ok (.invokevirtual 79, 3) := dk_182 0 79 (dk_at dksX2_read_1 17 rfl rfl)
theorem dX2_read_42 : decode cX2_read 42 = .ok (.aload_n 0, 1) := dk_42 (dk_at dksX2_read_1 20 rfl rfl)
theorem dX2_read_43 : decode cX2_read 43 = .ok (.invokevirtual 120, 3) := dk_182 0 120 (dk_at dksX2_read_1 21 rfl rfl)
theorem dX2_read_46 : decode cX2_read 46 = .ok (.goto (-17), 3) := dk_167 255 239 (dk_at dksX2_read_2 0 rfl rfl)
theorem dX2_read_49 : decode cX2_read 49 = .ok (.aload_n 0, 1) := dk_42 (dk_at dksX2_read_2 3 rfl rfl)
theorem dX2_read_50 : decode cX2_read 50 = .ok (.getfield 47, 3) := dk_180 0 47 (dk_at dksX2_read_2 4 rfl rfl)
theorem dX2_read_53 : decode cX2_read 53 = .ok (.ifCond .eq 9, 3) := dk_153 0 9 (dk_at dksX2_read_2 7 rfl rfl)
theorem dX2_read_56 : decode cX2_read 56 = .ok (.aload_n 0, 1) := dk_42 (dk_at dksX2_read_2 10 rfl rfl)
theorem dX2_read_57 : decode cX2_read 57 = .ok (.iconst 1, 1) := dk_4 (dk_at dksX2_read_2 11 rfl rfl)
theorem dX2_read_58 : decode cX2_read 58 = .ok (.invokevirtual 85, 3) := dk_182 0 85 (dk_at dksX2_read_2 12 rfl rfl)
theorem dX2_read_61 : decode cX2_read 61 = .ok (.athrow, 1) := dk_191 (dk_at dksX2_read_2 15 rfl rfl)
theorem dX2_read_62 : decode cX2_read 62 = .ok (.aload_n 0, 1) := dk_42 (dk_at dksX2_read_2 16 rfl rfl)
theorem dX2_read_63 : decode cX2_read 63 = .ok (.getfield 109, 3) := dk_180 0 109 (dk_at dksX2_read_2 17 rfl rfl)
theorem dX2_read_66 : decode cX2_read 66 = .ok (.invokevirtual 123, 3) := dk_182 0 123 (dk_at dksX2_read_2 20 rfl rfl)
theorem dX2_read_69 : decode cX2_read 69 = .ok (.ifCond .eq 10, 3) := dk_153 0 10 (dk_at dksX2_read_3 0 rfl rfl)
theorem dX2_read_72 : decode cX2_read 72 = .ok (.aload_n 0, 1) := dk_42 (dk_at dksX2_read_3 3 rfl rfl)
theorem dX2_read_73 : decode cX2_read 73 = .ok (.bipush 6, 2) := dk_16 6 (dk_at dksX2_read_3 4 rfl rfl)
theorem dX2_read_75 : decode cX2_read 75 = .ok (.invokevirtual 85, 3) := dk_182 0 85 (dk_at dksX2_read_3 6 rfl rfl)
theorem dX2_read_78 : decode cX2_read 78 = .ok (.athrow, 1) := dk_191 (dk_at dksX2_read_3 9 rfl rfl)
theorem dX2_read_79 : decode cX2_read 79 = .ok (.aload_n 0, 1) := dk_42 (dk_at dksX2_read_3 10 rfl rfl)
theorem dX2_read_80 : decode cX2_read 80 = .ok (.getfield 109, 3) := dk_180 0 109 (dk_at dksX2_read_3 11 rfl rfl)
theorem dX2_read_83 : decode cX2_read 83 = .ok (.areturn, 1) := dk_176 (dk_at dksX2_read_3 14 rfl rfl)
abbrev cX2_next : ByteArray := prog_6_method_6_code
def yX2_next : MethodName := ⟨RX2, "next", "()V"⟩
def dkwX2_next_13 : List UInt8 := [181, 0, 47, 177]
abbrev dktX2_next_13 : List UInt8 := dkwX2_next_13 ++ []
def dkwX2_next_12 : List UInt8 := [181, 0, 47, 167, 0, 24, 42, 28, 16, 59, 159, 0, 9, 28, 16, 44, 160, 0, 7, 28, 167, 0, 4, 4]
abbrev dktX2_next_12 : List UInt8 := dkwX2_next_12 ++ dktX2_next_13
def dkwX2_next_11 : List UInt8 := [181, 0, 40, 167, 255, 199, 42, 42, 180, 0, 40, 27, 100, 6, 164, 0, 7, 4, 167, 0, 4, 6]
abbrev dktX2_next_11 : List UInt8 := dkwX2_next_11 ++ dktX2_next_12
def dkwX2_next_10 : List UInt8 := [42, 42, 180, 0, 40, 182, 0, 43, 96, 16, 48, 100, 181, 0, 68, 42, 89, 180, 0, 40, 4, 96]
abbrev dktX2_next_10 : List UInt8 := dkwX2_next_10 ++ dktX2_next_11
def dkwX2_next_9 : List UInt8 := [184, 0, 65, 153, 0, 49, 42, 180, 0, 40, 27, 100, 6, 162, 0, 26, 42, 16, 10, 42, 180, 0, 68, 104]
abbrev dktX2_next_9 : List UInt8 := dkwX2_next_9 ++ dktX2_next_10
def dkwX2_next_8 : List UInt8 := [184, 0, 65, 153, 0, 95, 42, 3, 181, 0, 68, 42, 27, 181, 0, 40, 42, 42, 180, 0, 40, 182, 0, 43]
abbrev dktX2_next_8 : List UInt8 := dkwX2_next_8 ++ dktX2_next_9
def dkwX2_next_7 : List UInt8 := [3, 42, 180, 0, 40, 27, 100, 183, 0, 56, 167, 0, 5, 18, 59, 181, 0, 61, 167, 0, 123, 28]
abbrev dktX2_next_7 : List UInt8 := dkwX2_next_7 ++ dktX2_next_8
def dkwX2_next_6 : List UInt8 := [167, 0, 4, 5, 181, 0, 47, 42, 42, 180, 0, 47, 5, 160, 0, 24, 187, 0, 54, 89, 42, 180, 0, 18]
abbrev dktX2_next_6 : List UInt8 := dkwX2_next_6 ++ dktX2_next_7
def dkwX2_next_5 : List UInt8 := [180, 0, 40, 4, 96, 181, 0, 40, 167, 255, 201, 42, 42, 180, 0, 40, 27, 100, 16, 8, 164, 0, 7, 4]
abbrev dktX2_next_5 : List UInt8 := dkwX2_next_5 ++ dktX2_next_6
def dkwX2_next_4 : List UInt8 := [42, 180, 0, 18, 42, 180, 0, 40, 27, 100, 42, 42, 180, 0, 40, 182, 0, 43, 146, 85, 42, 89]
abbrev dktX2_next_4 : List UInt8 := dkwX2_next_4 ++ dktX2_next_5
def dkwX2_next_3 : List UInt8 := [42, 180, 0, 40, 182, 0, 43, 184, 0, 50, 153, 0, 47, 42, 180, 0, 40, 27, 100, 16, 8, 162, 0, 23]
abbrev dktX2_next_3 : List UInt8 := dkwX2_next_3 ++ dktX2_next_4
def dkwX2_next_2 : List UInt8 := [181, 0, 47, 42, 27, 181, 0, 40, 167, 0, 251, 28, 184, 0, 50, 153, 0, 124, 42, 27, 181, 0, 40, 42]
abbrev dktX2_next_2 : List UInt8 := dkwX2_next_2 ++ dktX2_next_3
def dkwX2_next_1 : List UInt8 := [181, 0, 26, 42, 27, 4, 96, 181, 0, 40, 42, 27, 182, 0, 43, 61, 28, 2, 160, 0, 16, 42, 3]
abbrev dktX2_next_1 : List UInt8 := dkwX2_next_1 ++ dktX2_next_2
def dkwX2_next_0 : List UInt8 := [42, 180, 0, 40, 60, 42, 27, 182, 0, 43, 16, 32, 160, 0, 9, 132, 1, 1, 167, 255, 243, 42, 27]
abbrev dktX2_next_0 : List UInt8 := dkwX2_next_0 ++ dktX2_next_1
theorem dksX2_next_0 : cX2_next.data.toList.drop 0 = dktX2_next_0 := by decide +kernel
theorem dksX2_next_1 : cX2_next.data.toList.drop 23 = dktX2_next_1 := dk_seg dksX2_next_0 23 rfl rfl
theorem dksX2_next_2 : cX2_next.data.toList.drop 46 = dktX2_next_2 := dk_seg dksX2_next_1 23 rfl rfl
theorem dksX2_next_3 : cX2_next.data.toList.drop 70 = dktX2_next_3 := dk_seg dksX2_next_2 24 rfl rfl
theorem dksX2_next_4 : cX2_next.data.toList.drop 94 = dktX2_next_4 := dk_seg dksX2_next_3 24 rfl rfl
theorem dksX2_next_5 : cX2_next.data.toList.drop 116 = dktX2_next_5 := dk_seg dksX2_next_4 22 rfl rfl
theorem dksX2_next_6 : cX2_next.data.toList.drop 140 = dktX2_next_6 := dk_seg dksX2_next_5 24 rfl rfl
theorem dksX2_next_7 : cX2_next.data.toList.drop 164 = dktX2_next_7 := dk_seg dksX2_next_6 24 rfl rfl
theorem dksX2_next_8 : cX2_next.data.toList.drop 186 = dktX2_next_8 := dk_seg dksX2_next_7 22 rfl rfl
theorem dksX2_next_9 : cX2_next.data.toList.drop 210 = dktX2_next_9 := dk_seg dksX2_next_8 24 rfl rfl
theorem dksX2_next_10 : cX2_next.data.toList.drop 234 = dktX2_next_10 := dk_seg dksX2_next_9 24 rfl rfl
theorem dksX2_next_11 : cX2_next.data.toList.drop 256 = dktX2_next_11 := dk_seg dksX2_next_10 22 rfl rfl
theorem dksX2_next_12 : cX2_next.data.toList.drop 278 = dktX2_next_12 := dk_seg dksX2_next_11 22 rfl rfl
theorem dksX2_next_13 : cX2_next.data.toList.drop 302 = dktX2_next_13 := dk_seg dksX2_next_12 24 rfl rfl
theorem dX2_next_0 : decode cX2_next 0 = .ok (.aload_n 0, 1) := dk_42 (dk_at dksX2_next_0 0 rfl rfl)
theorem dX2_next_1 : decode cX2_next 1 = .ok (.getfield 40, 3) := dk_180 0 40 (dk_at dksX2_next_0 1 rfl rfl)
theorem dX2_next_4 : decode cX2_next 4 = .ok (.istore_n 1, 1) := dk_60 (dk_at dksX2_next_0 4 rfl rfl)
theorem dX2_next_5 : decode cX2_next 5 = .ok (.aload_n 0, 1) := dk_42 (dk_at dksX2_next_0 5 rfl rfl)
theorem dX2_next_6 : decode cX2_next 6 = .ok (.iload_n 1, 1) := dk_27 (dk_at dksX2_next_0 6 rfl rfl)
theorem dX2_next_7 : decode cX2_next 7 = .ok (.invokevirtual 43, 3) := dk_182 0 43 (dk_at dksX2_next_0 7 rfl rfl)
theorem dX2_next_10 : decode cX2_next 10 = .ok (.bipush 32, 2) := dk_16 32 (dk_at dksX2_next_0 10 rfl rfl)
theorem dX2_next_12 : decode cX2_next 12 = .ok (.if_icmp .ne 9, 3) := dk_160 0 9 (dk_at dksX2_next_0 12 rfl rfl)
theorem dX2_next_15 : decode cX2_next 15 = .ok (.iinc 1 1, 3) := dk_132 1 1 (dk_at dksX2_next_0 15 rfl rfl)
theorem dX2_next_18 : decode cX2_next 18 = .ok (.goto (-13), 3) := dk_167 255 243 (dk_at dksX2_next_0 18 rfl rfl)
theorem dX2_next_21 : decode cX2_next 21 = .ok (.aload_n 0, 1) := dk_42 (dk_at dksX2_next_0 21 rfl rfl)
theorem dX2_next_22 : decode cX2_next 22 = .ok (.iload_n 1, 1) := dk_27 (dk_at dksX2_next_0 22 rfl rfl)
theorem dX2_next_23 : decode cX2_next 23 = .ok (.putfield 26, 3) := dk_181 0 26 (dk_at dksX2_next_1 0 rfl rfl)
theorem dX2_next_26 : decode cX2_next 26 = .ok (.aload_n 0, 1) := dk_42 (dk_at dksX2_next_1 3 rfl rfl)
theorem dX2_next_27 : decode cX2_next 27 = .ok (.iload_n 1, 1) := dk_27 (dk_at dksX2_next_1 4 rfl rfl)
theorem dX2_next_28 : decode cX2_next 28 = .ok (.iconst 1, 1) := dk_4 (dk_at dksX2_next_1 5 rfl rfl)
theorem dX2_next_29 : decode cX2_next 29 = .ok (.iadd, 1) := dk_96 (dk_at dksX2_next_1 6 rfl rfl)
theorem dX2_next_30 : decode cX2_next 30 = .ok (.putfield 40, 3) := dk_181 0 40 (dk_at dksX2_next_1 7 rfl rfl)
theorem dX2_next_33 : decode cX2_next 33 = .ok (.aload_n 0, 1) := dk_42 (dk_at dksX2_next_1 10 rfl rfl)
theorem dX2_next_34 : decode cX2_next 34 = .ok (.iload_n 1, 1) := dk_27 (dk_at dksX2_next_1 11 rfl rfl)
theorem dX2_next_35 : decode cX2_next 35 = .ok (.invokevirtual 43, 3) := dk_182 0 43 (dk_at dksX2_next_1 12 rfl rfl)
theorem dX2_next_38 : decode cX2_next 38 = .ok (.istore_n 2, 1) := dk_61 (dk_at dksX2_next_1 15 rfl rfl)
theorem dX2_next_39 : decode cX2_next 39 = .ok (.iload_n 2, 1) := dk_28 (dk_at dksX2_next_1 16 rfl rfl)
theorem dX2_next_40 : decode cX2_next 40 = .ok (.iconst (-1), 1) := dk_2 (dk_at dksX2_next_1 17 rfl rfl)
theorem dX2_next_41 : decode cX2_next 41 = .ok (.if_icmp .ne 16, 3) := dk_160 0 16 (dk_at dksX2_next_1 18 rfl rfl)
theorem dX2_next_44 : decode cX2_next 44 = .ok (.aload_n 0, 1) := dk_42 (dk_at dksX2_next_1 21 rfl rfl)
theorem dX2_next_45 : decode cX2_next 45 = .ok (.iconst 0, 1) := dk_3 (dk_at dksX2_next_1 22 rfl rfl)
theorem dX2_next_46 : decode cX2_next 46 = .ok (.putfield 47, 3) := dk_181 0 47 (dk_at dksX2_next_2 0 rfl rfl)
theorem dX2_next_49 : decode cX2_next 49 = .ok (.aload_n 0, 1) := dk_42 (dk_at dksX2_next_2 3 rfl rfl)
theorem dX2_next_50 : decode cX2_next 50 = .ok (.iload_n 1, 1) := dk_27 (dk_at dksX2_next_2 4 rfl rfl)
theorem dX2_next_51 : decode cX2_next 51 = .ok (.putfield 40, 3) := dk_181 0 40 (dk_at dksX2_next_2 5 rfl rfl)
theorem dX2_next_54 : decode cX2_next 54 = .ok (.goto 251, 3) := dk_167 0 251 (dk_at dksX2_next_2 8 rfl rfl)
theorem dX2_next_57 : decode cX2_next 57 = .ok (.iload_n 2, 1) := dk_28 (dk_at dksX2_next_2 11 rfl rfl)
theorem dX2_next_58 : decode cX2_next 58 = .ok (.invokestatic 50, 3) := dk_184 0 50 (dk_at dksX2_next_2 12 rfl rfl)
theorem dX2_next_61 : decode cX2_next 61 = .ok (.ifCond .eq 124, 3) := dk_153 0 124 (dk_at dksX2_next_2 15 rfl rfl)
theorem dX2_next_64 : decode cX2_next 64 = .ok (.aload_n 0, 1) := dk_42 (dk_at dksX2_next_2 18 rfl rfl)
theorem dX2_next_65 : decode cX2_next 65 = .ok (.iload_n 1, 1) := dk_27 (dk_at dksX2_next_2 19 rfl rfl)
theorem dX2_next_66 : decode cX2_next 66 = .ok (.putfield 40, 3) := dk_181 0 40 (dk_at dksX2_next_2 20 rfl rfl)
theorem dX2_next_69 : decode cX2_next 69 = .ok (.aload_n 0, 1) := dk_42 (dk_at dksX2_next_2 23 rfl rfl)
theorem dX2_next_70 : decode cX2_next 70 = .ok (.aload_n 0, 1) := dk_42 (dk_at dksX2_next_3 0 rfl rfl)
theorem dX2_next_71 : decode cX2_next 71 = .ok (.getfield 40, 3) := dk_180 0 40 (dk_at dksX2_next_3 1 rfl rfl)
theorem dX2_next_74 : decode cX2_next 74 = .ok (.invokevirtual 43, 3) := dk_182 0 43 (dk_at dksX2_next_3 4 rfl rfl)
theorem dX2_next_77 : decode cX2_next 77 = .ok (.invokestatic 50, 3) := dk_184 0 50 (dk_at dksX2_next_3 7 rfl rfl)
theorem dX2_next_80 : decode cX2_next 80 = .ok (.ifCond .eq 47, 3) := dk_153 0 47 (dk_at dksX2_next_3 10 rfl rfl)
theorem dX2_next_83 : decode cX2_next 83 = .ok (.aload_n 0, 1) := dk_42 (dk_at dksX2_next_3 13 rfl rfl)
theorem dX2_next_84 : decode cX2_next 84 = .ok (.getfield 40, 3) := dk_180 0 40 (dk_at dksX2_next_3 14 rfl rfl)
theorem dX2_next_87 : decode cX2_next 87 = .ok (.iload_n 1, 1) := dk_27 (dk_at dksX2_next_3 17 rfl rfl)
theorem dX2_next_88 : decode cX2_next 88 = .ok (.isub, 1) := dk_100 (dk_at dksX2_next_3 18 rfl rfl)
theorem dX2_next_89 : decode cX2_next 89 = .ok (.bipush 8, 2) := dk_16 8 (dk_at dksX2_next_3 19 rfl rfl)
theorem dX2_next_91 : decode cX2_next 91 = .ok (.if_icmp .ge 23, 3) := dk_162 0 23 (dk_at dksX2_next_3 21 rfl rfl)
theorem dX2_next_94 : decode cX2_next 94 = .ok (.aload_n 0, 1) := dk_42 (dk_at dksX2_next_4 0 rfl rfl)
theorem dX2_next_95 : decode cX2_next 95 = .ok (.getfield 18, 3) := dk_180 0 18 (dk_at dksX2_next_4 1 rfl rfl)
theorem dX2_next_98 : decode cX2_next 98 = .ok (.aload_n 0, 1) := dk_42 (dk_at dksX2_next_4 4 rfl rfl)
theorem dX2_next_99 : decode cX2_next 99 = .ok (.getfield 40, 3) := dk_180 0 40 (dk_at dksX2_next_4 5 rfl rfl)
theorem dX2_next_102 : decode cX2_next 102 = .ok (.iload_n 1, 1) := dk_27 (dk_at dksX2_next_4 8 rfl rfl)
theorem dX2_next_103 : decode cX2_next 103 = .ok (.isub, 1) := dk_100 (dk_at dksX2_next_4 9 rfl rfl)
theorem dX2_next_104 : decode cX2_next 104 = .ok (.aload_n 0, 1) := dk_42 (dk_at dksX2_next_4 10 rfl rfl)
theorem dX2_next_105 : decode cX2_next 105 = .ok (.aload_n 0, 1) := dk_42 (dk_at dksX2_next_4 11 rfl rfl)
theorem dX2_next_106 : decode cX2_next 106 = .ok (.getfield 40, 3) := dk_180 0 40 (dk_at dksX2_next_4 12 rfl rfl)
theorem dX2_next_109 : decode cX2_next 109 = .ok (.invokevirtual 43, 3) := dk_182 0 43 (dk_at dksX2_next_4 15 rfl rfl)
theorem dX2_next_112 : decode cX2_next 112 = .ok (.i2c, 1) := dk_146 (dk_at dksX2_next_4 18 rfl rfl)
theorem dX2_next_113 : decode cX2_next 113 = .ok (.castore, 1) := dk_85 (dk_at dksX2_next_4 19 rfl rfl)
theorem dX2_next_114 : decode cX2_next 114 = .ok (.aload_n 0, 1) := dk_42 (dk_at dksX2_next_4 20 rfl rfl)
theorem dX2_next_115 : decode cX2_next 115 = .ok (.dup, 1) := dk_89 (dk_at dksX2_next_4 21 rfl rfl)
theorem dX2_next_116 : decode cX2_next 116 = .ok (.getfield 40, 3) := dk_180 0 40 (dk_at dksX2_next_5 0 rfl rfl)
theorem dX2_next_119 : decode cX2_next 119 = .ok (.iconst 1, 1) := dk_4 (dk_at dksX2_next_5 3 rfl rfl)
theorem dX2_next_120 : decode cX2_next 120 = .ok (.iadd, 1) := dk_96 (dk_at dksX2_next_5 4 rfl rfl)
theorem dX2_next_121 : decode cX2_next 121 = .ok (.putfield 40, 3) := dk_181 0 40 (dk_at dksX2_next_5 5 rfl rfl)
theorem dX2_next_124 : decode cX2_next 124 = .ok (.goto (-55), 3) := dk_167 255 201 (dk_at dksX2_next_5 8 rfl rfl)
theorem dX2_next_127 : decode cX2_next 127 = .ok (.aload_n 0, 1) := dk_42 (dk_at dksX2_next_5 11 rfl rfl)
theorem dX2_next_128 : decode cX2_next 128 = .ok (.aload_n 0, 1) := dk_42 (dk_at dksX2_next_5 12 rfl rfl)
theorem dX2_next_129 : decode cX2_next 129 = .ok (.getfield 40, 3) := dk_180 0 40 (dk_at dksX2_next_5 13 rfl rfl)
theorem dX2_next_132 : decode cX2_next 132 = .ok (.iload_n 1, 1) := dk_27 (dk_at dksX2_next_5 16 rfl rfl)
theorem dX2_next_133 : decode cX2_next 133 = .ok (.isub, 1) := dk_100 (dk_at dksX2_next_5 17 rfl rfl)
theorem dX2_next_134 : decode cX2_next 134 = .ok (.bipush 8, 2) := dk_16 8 (dk_at dksX2_next_5 18 rfl rfl)
theorem dX2_next_136 : decode cX2_next 136 = .ok (.if_icmp .le 7, 3) := dk_164 0 7 (dk_at dksX2_next_5 20 rfl rfl)
theorem dX2_next_139 : decode cX2_next 139 = .ok (.iconst 1, 1) := dk_4 (dk_at dksX2_next_5 23 rfl rfl)
theorem dX2_next_140 : decode cX2_next 140 = .ok (.goto 4, 3) := dk_167 0 4 (dk_at dksX2_next_6 0 rfl rfl)
theorem dX2_next_143 : decode cX2_next 143 = .ok (.iconst 2, 1) := dk_5 (dk_at dksX2_next_6 3 rfl rfl)
theorem dX2_next_144 : decode cX2_next 144 = .ok (.putfield 47, 3) := dk_181 0 47 (dk_at dksX2_next_6 4 rfl rfl)
theorem dX2_next_147 : decode cX2_next 147 = .ok (.aload_n 0, 1) := dk_42 (dk_at dksX2_next_6 7 rfl rfl)
theorem dX2_next_148 : decode cX2_next 148 = .ok (.aload_n 0, 1) := dk_42 (dk_at dksX2_next_6 8 rfl rfl)
theorem dX2_next_149 : decode cX2_next 149 = .ok (.getfield 47, 3) := dk_180 0 47 (dk_at dksX2_next_6 9 rfl rfl)
theorem dX2_next_152 : decode cX2_next 152 = .ok (.iconst 2, 1) := dk_5 (dk_at dksX2_next_6 12 rfl rfl)
theorem dX2_next_153 : decode cX2_next 153 = .ok (.if_icmp .ne 24, 3) := dk_160 0 24 (dk_at dksX2_next_6 13 rfl rfl)
theorem dX2_next_156 : decode cX2_next 156 = .ok (.new 54, 3) := dk_187 0 54 (dk_at dksX2_next_6 16 rfl rfl)
theorem dX2_next_159 : decode cX2_next 159 = .ok (.dup, 1) := dk_89 (dk_at dksX2_next_6 19 rfl rfl)
theorem dX2_next_160 : decode cX2_next 160 = .ok (.aload_n 0, 1) := dk_42 (dk_at dksX2_next_6 20 rfl rfl)
theorem dX2_next_161 : decode cX2_next 161 = .ok (.getfield 18, 3) := dk_180 0 18 (dk_at dksX2_next_6 21 rfl rfl)
theorem dX2_next_164 : decode cX2_next 164 = .ok (.iconst 0, 1) := dk_3 (dk_at dksX2_next_7 0 rfl rfl)
theorem dX2_next_165 : decode cX2_next 165 = .ok (.aload_n 0, 1) := dk_42 (dk_at dksX2_next_7 1 rfl rfl)
theorem dX2_next_166 : decode cX2_next 166 = .ok (.getfield 40, 3) := dk_180 0 40 (dk_at dksX2_next_7 2 rfl rfl)
theorem dX2_next_169 : decode cX2_next 169 = .ok (.iload_n 1, 1) := dk_27 (dk_at dksX2_next_7 5 rfl rfl)
theorem dX2_next_170 : decode cX2_next 170 = .ok (.isub, 1) := dk_100 (dk_at dksX2_next_7 6 rfl rfl)
theorem dX2_next_171 : decode cX2_next 171 = .ok (.invokespecial 56, 3) := dk_183 0 56 (dk_at dksX2_next_7 7 rfl rfl)
theorem dX2_next_174 : decode cX2_next 174 = .ok (.goto 5, 3) := dk_167 0 5 (dk_at dksX2_next_7 10 rfl rfl)
theorem dX2_next_177 : decode cX2_next 177 = .ok (.ldc 59, 2) := dk_18 59 (dk_at dksX2_next_7 13 rfl rfl)
theorem dX2_next_179 : decode cX2_next 179 = .ok (.putfield 61, 3) := dk_181 0 61 (dk_at dksX2_next_7 15 rfl rfl)
theorem dX2_next_182 : decode cX2_next 182 = .ok (.goto 123, 3) := dk_167 0 123 (dk_at dksX2_next_7 18 rfl rfl)
theorem dX2_next_185 : decode cX2_next 185 = .ok (.iload_n 2, 1) := dk_28 (dk_at dksX2_next_7 21 rfl rfl)
theorem dX2_next_186 : decode cX2_next 186 = .ok (.invokestatic 65, 3) := dk_184 0 65 (dk_at dksX2_next_8 0 rfl rfl)
theorem dX2_next_189 : decode cX2_next 189 = .ok (.ifCond .eq 95, 3) := dk_153 0 95 (dk_at dksX2_next_8 3 rfl rfl)
theorem dX2_next_192 : decode cX2_next 192 = .ok (.aload_n 0, 1) := dk_42 (dk_at dksX2_next_8 6 rfl rfl)
theorem dX2_next_193 : decode cX2_next 193 = .ok (.iconst 0, 1) := dk_3 (dk_at dksX2_next_8 7 rfl rfl)
theorem dX2_next_194 : decode cX2_next 194 = .ok (.putfield 68, 3) := dk_181 0 68 (dk_at dksX2_next_8 8 rfl rfl)
theorem dX2_next_197 : decode cX2_next 197 = .ok (.aload_n 0, 1) := dk_42 (dk_at dksX2_next_8 11 rfl rfl)
theorem dX2_next_198 : decode cX2_next 198 = .ok (.iload_n 1, 1) := dk_27 (dk_at dksX2_next_8 12 rfl rfl)
theorem dX2_next_199 : decode cX2_next 199 = .ok (.putfield 40, 3) := dk_181 0 40 (dk_at dksX2_next_8 13 rfl rfl)
theorem dX2_next_202 : decode cX2_next 202 = .ok (.aload_n 0, 1) := dk_42 (dk_at dksX2_next_8 16 rfl rfl)
theorem dX2_next_203 : decode cX2_next 203 = .ok (.aload_n 0, 1) := dk_42 (dk_at dksX2_next_8 17 rfl rfl)
theorem dX2_next_204 : decode cX2_next 204 = .ok (.getfield 40, 3) := dk_180 0 40 (dk_at dksX2_next_8 18 rfl rfl)
theorem dX2_next_207 : decode cX2_next 207 = .ok (.invokevirtual 43, 3) := dk_182 0 43 (dk_at dksX2_next_8 21 rfl rfl)
theorem dX2_next_210 : decode cX2_next 210 = .ok (.invokestatic 65, 3) := dk_184 0 65 (dk_at dksX2_next_9 0 rfl rfl)
theorem dX2_next_213 : decode cX2_next 213 = .ok (.ifCond .eq 49, 3) := dk_153 0 49 (dk_at dksX2_next_9 3 rfl rfl)
theorem dX2_next_216 : decode cX2_next 216 = .ok (.aload_n 0, 1) := dk_42 (dk_at dksX2_next_9 6 rfl rfl)
theorem dX2_next_217 : decode cX2_next 217 = .ok (.getfield 40, 3) := dk_180 0 40 (dk_at dksX2_next_9 7 rfl rfl)
theorem dX2_next_220 : decode cX2_next 220 = .ok (.iload_n 1, 1) := dk_27 (dk_at dksX2_next_9 10 rfl rfl)
theorem dX2_next_221 : decode cX2_next 221 = .ok (.isub, 1) := dk_100 (dk_at dksX2_next_9 11 rfl rfl)
theorem dX2_next_222 : decode cX2_next 222 = .ok (.iconst 3, 1) := dk_6 (dk_at dksX2_next_9 12 rfl rfl)
theorem dX2_next_223 : decode cX2_next 223 = .ok (.if_icmp .ge 26, 3) := dk_162 0 26 (dk_at dksX2_next_9 13 rfl rfl)
theorem dX2_next_226 : decode cX2_next 226 = .ok (.aload_n 0, 1) := dk_42 (dk_at dksX2_next_9 16 rfl rfl)
theorem dX2_next_227 : decode cX2_next 227 = .ok (.bipush 10, 2) := dk_16 10 (dk_at dksX2_next_9 17 rfl rfl)
theorem dX2_next_229 : decode cX2_next 229 = .ok (.aload_n 0, 1) := dk_42 (dk_at dksX2_next_9 19 rfl rfl)
theorem dX2_next_230 : decode cX2_next 230 = .ok (.getfield 68, 3) := dk_180 0 68 (dk_at dksX2_next_9 20 rfl rfl)
theorem dX2_next_233 : decode cX2_next 233 = .ok (.imul, 1) := dk_104 (dk_at dksX2_next_9 23 rfl rfl)
theorem dX2_next_234 : decode cX2_next 234 = .ok (.aload_n 0, 1) := dk_42 (dk_at dksX2_next_10 0 rfl rfl)
theorem dX2_next_235 : decode cX2_next 235 = .ok (.aload_n 0, 1) := dk_42 (dk_at dksX2_next_10 1 rfl rfl)
theorem dX2_next_236 : decode cX2_next 236 = .ok (.getfield 40, 3) := dk_180 0 40 (dk_at dksX2_next_10 2 rfl rfl)
theorem dX2_next_239 : decode cX2_next 239 = .ok (.invokevirtual 43, 3) := dk_182 0 43 (dk_at dksX2_next_10 5 rfl rfl)
theorem dX2_next_242 : decode cX2_next 242 = .ok (.iadd, 1) := dk_96 (dk_at dksX2_next_10 8 rfl rfl)
theorem dX2_next_243 : decode cX2_next 243 = .ok (.bipush 48, 2) := dk_16 48 (dk_at dksX2_next_10 9 rfl rfl)
theorem dX2_next_245 : decode cX2_next 245 = .ok (.isub, 1) := dk_100 (dk_at dksX2_next_10 11 rfl rfl)
theorem dX2_next_246 : decode cX2_next 246 = .ok (.putfield 68, 3) := dk_181 0 68 (dk_at dksX2_next_10 12 rfl rfl)
theorem dX2_next_249 : decode cX2_next 249 = .ok (.aload_n 0, 1) := dk_42 (dk_at dksX2_next_10 15 rfl rfl)
theorem dX2_next_250 : decode cX2_next 250 = .ok (.dup, 1) := dk_89 (dk_at dksX2_next_10 16 rfl rfl)
theorem dX2_next_251 : decode cX2_next 251 = .ok (.getfield 40, 3) := dk_180 0 40 (dk_at dksX2_next_10 17 rfl rfl)
theorem dX2_next_254 : decode cX2_next 254 = .ok (.iconst 1, 1) := dk_4 (dk_at dksX2_next_10 20 rfl rfl)
theorem dX2_next_255 : decode cX2_next 255 = .ok (.iadd, 1) := dk_96 (dk_at dksX2_next_10 21 rfl rfl)
theorem dX2_next_256 : decode cX2_next 256 = .ok (.putfield 40, 3) := dk_181 0 40 (dk_at dksX2_next_11 0 rfl rfl)
theorem dX2_next_259 : decode cX2_next 259 = .ok (.goto (-57), 3) := dk_167 255 199 (dk_at dksX2_next_11 3 rfl rfl)
theorem dX2_next_262 : decode cX2_next 262 = .ok (.aload_n 0, 1) := dk_42 (dk_at dksX2_next_11 6 rfl rfl)
theorem dX2_next_263 : decode cX2_next 263 = .ok (.aload_n 0, 1) := dk_42 (dk_at dksX2_next_11 7 rfl rfl)
theorem dX2_next_264 : decode cX2_next 264 = .ok (.getfield 40, 3) := dk_180 0 40 (dk_at dksX2_next_11 8 rfl rfl)
theorem dX2_next_267 : decode cX2_next 267 = .ok (.iload_n 1, 1) := dk_27 (dk_at dksX2_next_11 11 rfl rfl)
theorem dX2_next_268 : decode cX2_next 268 = .ok (.isub, 1) := dk_100 (dk_at dksX2_next_11 12 rfl rfl)
theorem dX2_next_269 : decode cX2_next 269 = .ok (.iconst 3, 1) := dk_6 (dk_at dksX2_next_11 13 rfl rfl)
theorem dX2_next_270 : decode cX2_next 270 = .ok (.if_icmp .le 7, 3) := dk_164 0 7 (dk_at dksX2_next_11 14 rfl rfl)
theorem dX2_next_273 : decode cX2_next 273 = .ok (.iconst 1, 1) := dk_4 (dk_at dksX2_next_11 17 rfl rfl)
theorem dX2_next_274 : decode cX2_next 274 = .ok (.goto 4, 3) := dk_167 0 4 (dk_at dksX2_next_11 18 rfl rfl)
theorem dX2_next_277 : decode cX2_next 277 = .ok (.iconst 3, 1) := dk_6 (dk_at dksX2_next_11 21 rfl rfl)
theorem dX2_next_278 : decode cX2_next 278 = .ok (.putfield 47, 3) := dk_181 0 47 (dk_at dksX2_next_12 0 rfl rfl)
theorem dX2_next_281 : decode cX2_next 281 = .ok (.goto 24, 3) := dk_167 0 24 (dk_at dksX2_next_12 3 rfl rfl)
theorem dX2_next_284 : decode cX2_next 284 = .ok (.aload_n 0, 1) := dk_42 (dk_at dksX2_next_12 6 rfl rfl)
theorem dX2_next_285 : decode cX2_next 285 = .ok (.iload_n 2, 1) := dk_28 (dk_at dksX2_next_12 7 rfl rfl)
theorem dX2_next_286 : decode cX2_next 286 = .ok (.bipush 59, 2) := dk_16 59 (dk_at dksX2_next_12 8 rfl rfl)
theorem dX2_next_288 : decode cX2_next 288 = .ok (.if_icmp .eq 9, 3) := dk_159 0 9 (dk_at dksX2_next_12 10 rfl rfl)
theorem dX2_next_291 : decode cX2_next 291 = .ok (.iload_n 2, 1) := dk_28 (dk_at dksX2_next_12 13 rfl rfl)
theorem dX2_next_292 : decode cX2_next 292 = .ok (.bipush 44, 2) := dk_16 44 (dk_at dksX2_next_12 14 rfl rfl)
theorem dX2_next_294 : decode cX2_next 294 = .ok (.if_icmp .ne 7, 3) := dk_160 0 7 (dk_at dksX2_next_12 16 rfl rfl)
theorem dX2_next_297 : decode cX2_next 297 = .ok (.iload_n 2, 1) := dk_28 (dk_at dksX2_next_12 19 rfl rfl)
theorem dX2_next_298 : decode cX2_next 298 = .ok (.goto 4, 3) := dk_167 0 4 (dk_at dksX2_next_12 20 rfl rfl)
theorem dX2_next_301 : decode cX2_next 301 = .ok (.iconst 1, 1) := dk_4 (dk_at dksX2_next_12 23 rfl rfl)
theorem dX2_next_302 : decode cX2_next 302 = .ok (.putfield 47, 3) := dk_181 0 47 (dk_at dksX2_next_13 0 rfl rfl)
theorem dX2_next_305 : decode cX2_next 305 = .ok (.return_, 1) := dk_177 (dk_at dksX2_next_13 3 rfl rfl)
abbrev cX2_see : ByteArray := prog_6_method_3_code
def yX2_see : MethodName := ⟨RX2, "see", "(I)I"⟩
def dkwX2_see_0 : List UInt8 := [27, 42, 180, 0, 33, 162, 0, 16, 42, 180, 0, 22, 27, 51, 17, 0, 255, 126, 167, 0, 4, 2, 172]
abbrev dktX2_see_0 : List UInt8 := dkwX2_see_0 ++ []
theorem dksX2_see_0 : cX2_see.data.toList.drop 0 = dktX2_see_0 := by decide +kernel
theorem dX2_see_0 : decode cX2_see 0 = .ok (.iload_n 1, 1) := dk_27 (dk_at dksX2_see_0 0 rfl rfl)
theorem dX2_see_1 : decode cX2_see 1 = .ok (.aload_n 0, 1) := dk_42 (dk_at dksX2_see_0 1 rfl rfl)
theorem dX2_see_2 : decode cX2_see 2 = .ok (.getfield 33, 3) := dk_180 0 33 (dk_at dksX2_see_0 2 rfl rfl)
theorem dX2_see_5 : decode cX2_see 5 = .ok (.if_icmp .ge 16, 3) := dk_162 0 16 (dk_at dksX2_see_0 5 rfl rfl)
theorem dX2_see_8 : decode cX2_see 8 = .ok (.aload_n 0, 1) := dk_42 (dk_at dksX2_see_0 8 rfl rfl)
theorem dX2_see_9 : decode cX2_see 9 = .ok (.getfield 22, 3) := dk_180 0 22 (dk_at dksX2_see_0 9 rfl rfl)
theorem dX2_see_12 : decode cX2_see 12 = .ok (.iload_n 1, 1) := dk_27 (dk_at dksX2_see_0 12 rfl rfl)
theorem dX2_see_13 : decode cX2_see 13 = .ok (.baload, 1) := dk_51 (dk_at dksX2_see_0 13 rfl rfl)
theorem dX2_see_14 : decode cX2_see 14 = .ok (.sipush 255, 3) := dk_17 0 255 (dk_at dksX2_see_0 14 rfl rfl)
theorem dX2_see_17 : decode cX2_see 17 = .ok (.iand, 1) := dk_126 (dk_at dksX2_see_0 17 rfl rfl)
theorem dX2_see_18 : decode cX2_see 18 = .ok (.goto 4, 3) := dk_167 0 4 (dk_at dksX2_see_0 18 rfl rfl)
theorem dX2_see_21 : decode cX2_see 21 = .ok (.iconst (-1), 1) := dk_2 (dk_at dksX2_see_0 21 rfl rfl)
theorem dX2_see_22 : decode cX2_see 22 = .ok (.ireturn, 1) := dk_172 (dk_at dksX2_see_0 22 rfl rfl)
abbrev cX2_isSmall : ByteArray := prog_6_method_4_code
def yX2_isSmall : MethodName := ⟨RX2, "isSmall", "(I)Z"⟩
def dkwX2_isSmall_0 : List UInt8 := [26, 16, 97, 16, 122, 184, 0, 36, 172]
abbrev dktX2_isSmall_0 : List UInt8 := dkwX2_isSmall_0 ++ []
theorem dksX2_isSmall_0 : cX2_isSmall.data.toList.drop 0 = dktX2_isSmall_0 := by decide +kernel
theorem dX2_isSmall_0 : decode cX2_isSmall 0 = .ok (.iload_n 0, 1) := dk_26 (dk_at dksX2_isSmall_0 0 rfl rfl)
theorem dX2_isSmall_1 : decode cX2_isSmall 1 = .ok (.bipush 97, 2) := dk_16 97 (dk_at dksX2_isSmall_0 1 rfl rfl)
theorem dX2_isSmall_3 : decode cX2_isSmall 3 = .ok (.bipush 122, 2) := dk_16 122 (dk_at dksX2_isSmall_0 3 rfl rfl)
theorem dX2_isSmall_5 : decode cX2_isSmall 5 = .ok (.invokestatic 36, 3) := dk_184 0 36 (dk_at dksX2_isSmall_0 5 rfl rfl)
theorem dX2_isSmall_8 : decode cX2_isSmall 8 = .ok (.ireturn, 1) := dk_172 (dk_at dksX2_isSmall_0 8 rfl rfl)
abbrev cX2_isDigit : ByteArray := prog_6_method_5_code
def yX2_isDigit : MethodName := ⟨RX2, "isDigit", "(I)Z"⟩
def dkwX2_isDigit_0 : List UInt8 := [26, 16, 48, 16, 57, 184, 0, 36, 172]
abbrev dktX2_isDigit_0 : List UInt8 := dkwX2_isDigit_0 ++ []
theorem dksX2_isDigit_0 : cX2_isDigit.data.toList.drop 0 = dktX2_isDigit_0 := by decide +kernel
theorem dX2_isDigit_0 : decode cX2_isDigit 0 = .ok (.iload_n 0, 1) := dk_26 (dk_at dksX2_isDigit_0 0 rfl rfl)
theorem dX2_isDigit_1 : decode cX2_isDigit 1 = .ok (.bipush 48, 2) := dk_16 48 (dk_at dksX2_isDigit_0 1 rfl rfl)
theorem dX2_isDigit_3 : decode cX2_isDigit 3 = .ok (.bipush 57, 2) := dk_16 57 (dk_at dksX2_isDigit_0 3 rfl rfl)
theorem dX2_isDigit_5 : decode cX2_isDigit 5 = .ok (.invokestatic 36, 3) := dk_184 0 36 (dk_at dksX2_isDigit_0 5 rfl rfl)
theorem dX2_isDigit_8 : decode cX2_isDigit 8 = .ok (.ireturn, 1) := dk_172 (dk_at dksX2_isDigit_0 8 rfl rfl)
abbrev cX2_line : ByteArray := prog_6_method_15_code
def yX2_line : MethodName := ⟨RX2, "line", "()V"⟩
def dkwX2_line_18 : List UInt8 := [167, 0, 16, 42, 182, 0, 166, 167, 0, 9, 42, 4, 182, 0, 85, 191, 177]
abbrev dktX2_line_18 : List UInt8 := dkwX2_line_18 ++ []
def dkwX2_line_17 : List UInt8 := [154, 0, 7, 4, 167, 0, 4, 3, 182, 0, 130, 42, 182, 0, 161, 167, 0, 23, 42, 182, 0, 164]
abbrev dktX2_line_17 : List UInt8 := dkwX2_line_17 ++ dktX2_line_18
def dkwX2_line_16 : List UInt8 := [181, 0, 156, 42, 180, 0, 109, 21, 4, 181, 0, 152, 167, 0, 49, 42, 42, 180, 0, 109, 180, 0, 158]
abbrev dktX2_line_16 : List UInt8 := dkwX2_line_16 ++ dktX2_line_17
def dkwX2_line_15 : List UInt8 := [182, 0, 139, 54, 4, 42, 18, 154, 182, 0, 135, 42, 180, 0, 109, 42, 3, 17, 0, 200, 182, 0, 139]
abbrev dktX2_line_15 : List UInt8 := dkwX2_line_15 ++ dktX2_line_16
def dkwX2_line_14 : List UInt8 := [180, 0, 109, 180, 0, 152, 154, 0, 7, 4, 167, 0, 4, 3, 182, 0, 130, 42, 4, 17, 3, 231]
abbrev dktX2_line_14 : List UInt8 := dkwX2_line_14 ++ dktX2_line_15
def dkwX2_line_13 : List UInt8 := [182, 0, 130, 42, 180, 0, 109, 42, 4, 17, 0, 200, 182, 0, 139, 181, 0, 149, 167, 0, 111, 42, 42]
abbrev dktX2_line_13 : List UInt8 := dkwX2_line_13 ++ dktX2_line_14
def dkwX2_line_12 : List UInt8 := [182, 0, 147, 167, 0, 148, 42, 42, 180, 0, 109, 180, 0, 149, 154, 0, 7, 4, 167, 0, 4, 3]
abbrev dktX2_line_12 : List UInt8 := dkwX2_line_12 ++ dktX2_line_13
def dkwX2_line_11 : List UInt8 := [16, 10, 17, 0, 200, 182, 0, 139, 181, 0, 145, 42, 180, 0, 109, 29, 181, 0, 127, 167, 0, 155, 42]
abbrev dktX2_line_11 : List UInt8 := dkwX2_line_11 ++ dktX2_line_12
def dkwX2_line_10 : List UInt8 := [182, 0, 135, 42, 16, 20, 17, 3, 231, 182, 0, 139, 62, 42, 18, 143, 182, 0, 135, 42, 180, 0, 109, 42]
abbrev dktX2_line_10 : List UInt8 := dkwX2_line_10 ++ dktX2_line_11
def dkwX2_line_9 : List UInt8 := [42, 42, 180, 0, 109, 180, 0, 127, 154, 0, 7, 4, 167, 0, 4, 3, 182, 0, 130, 42, 18, 134]
abbrev dktX2_line_9 : List UInt8 := dkwX2_line_9 ++ dktX2_line_10
def dkwX2_line_8 : List UInt8 := [170, 0, 0, 0, 0, 1, 1, 0, 0, 0, 0, 0, 0, 0, 6, 0, 0, 0, 43, 0, 0, 0, 111, 0, 0, 0, 118, 0, 0, 0, 155, 0, 0, 0, 217, 0, 0, 0, 243, 0, 0, 0, 250]
abbrev dktX2_line_8 : List UInt8 := dkwX2_line_8 ++ dktX2_line_9
def dkwX2_line_7 : List UInt8 := [61, 28]
abbrev dktX2_line_7 : List UInt8 := dkwX2_line_7 ++ dktX2_line_8
def dkwX2_line_6 : List UInt8 := [18, 103, 182, 0, 71, 153, 0, 20, 8, 61, 167, 0, 15, 43, 18, 104, 182, 0, 71, 153, 0, 6, 16, 6]
abbrev dktX2_line_6 : List UInt8 := dkwX2_line_6 ++ dktX2_line_7
def dkwX2_line_5 : List UInt8 := [153, 0, 48, 6, 61, 167, 0, 43, 43, 18, 101, 182, 0, 71, 153, 0, 34, 7, 61, 167, 0, 29, 43]
abbrev dktX2_line_5 : List UInt8 := dkwX2_line_5 ++ dktX2_line_6
def dkwX2_line_4 : List UInt8 := [61, 167, 0, 71, 43, 18, 97, 182, 0, 71, 153, 0, 62, 5, 61, 167, 0, 57, 43, 18, 99, 182, 0, 71]
abbrev dktX2_line_4 : List UInt8 := dkwX2_line_4 ++ dktX2_line_5
def dkwX2_line_3 : List UInt8 := [43, 18, 93, 182, 0, 71, 153, 0, 90, 3, 61, 167, 0, 85, 43, 18, 95, 182, 0, 71, 153, 0, 76, 4]
abbrev dktX2_line_3 : List UInt8 := dkwX2_line_3 ++ dktX2_line_4
def dkwX2_line_2 : List UInt8 := [171, 0, 0, 0, 0, 0, 163, 0, 0, 0, 7, 0, 1, 125, 7, 0, 0, 0, 109, 0, 1, 174, 226, 0, 0, 0, 151, 0, 47, 47, 166, 0, 0, 0, 67, 0, 53, 224, 1, 0, 0, 0, 137, 6, 35, 78, 254, 0, 0, 0, 95, 6, 95, 177, 73, 0, 0, 0, 123, 6, 133, 211, 190, 0, 0, 0, 81]
abbrev dktX2_line_2 : List UInt8 := dkwX2_line_2 ++ dktX2_line_3
def dkwX2_line_1 : List UInt8 := [182, 0, 89]
abbrev dktX2_line_1 : List UInt8 := dkwX2_line_1 ++ dktX2_line_2
def dkwX2_line_0 : List UInt8 := [42, 180, 0, 47, 5, 159, 0, 9, 42, 4, 182, 0, 85, 191, 42, 180, 0, 61, 76, 2, 61, 43]
abbrev dktX2_line_0 : List UInt8 := dkwX2_line_0 ++ dktX2_line_1
theorem dksX2_line_0 : cX2_line.data.toList.drop 0 = dktX2_line_0 := by decide +kernel
theorem dksX2_line_1 : cX2_line.data.toList.drop 22 = dktX2_line_1 := dk_seg dksX2_line_0 22 rfl rfl
theorem dksX2_line_2 : cX2_line.data.toList.drop 25 = dktX2_line_2 := dk_seg dksX2_line_1 3 rfl rfl
theorem dksX2_line_3 : cX2_line.data.toList.drop 92 = dktX2_line_3 := dk_seg dksX2_line_2 67 rfl rfl
theorem dksX2_line_4 : cX2_line.data.toList.drop 116 = dktX2_line_4 := dk_seg dksX2_line_3 24 rfl rfl
theorem dksX2_line_5 : cX2_line.data.toList.drop 140 = dktX2_line_5 := dk_seg dksX2_line_4 24 rfl rfl
theorem dksX2_line_6 : cX2_line.data.toList.drop 163 = dktX2_line_6 := dk_seg dksX2_line_5 23 rfl rfl
theorem dksX2_line_7 : cX2_line.data.toList.drop 187 = dktX2_line_7 := dk_seg dksX2_line_6 24 rfl rfl
theorem dksX2_line_8 : cX2_line.data.toList.drop 189 = dktX2_line_8 := dk_seg dksX2_line_7 2 rfl rfl
theorem dksX2_line_9 : cX2_line.data.toList.drop 232 = dktX2_line_9 := dk_seg dksX2_line_8 43 rfl rfl
theorem dksX2_line_10 : cX2_line.data.toList.drop 254 = dktX2_line_10 := dk_seg dksX2_line_9 22 rfl rfl
theorem dksX2_line_11 : cX2_line.data.toList.drop 278 = dktX2_line_11 := dk_seg dksX2_line_10 24 rfl rfl
theorem dksX2_line_12 : cX2_line.data.toList.drop 301 = dktX2_line_12 := dk_seg dksX2_line_11 23 rfl rfl
theorem dksX2_line_13 : cX2_line.data.toList.drop 323 = dktX2_line_13 := dk_seg dksX2_line_12 22 rfl rfl
theorem dksX2_line_14 : cX2_line.data.toList.drop 346 = dktX2_line_14 := dk_seg dksX2_line_13 23 rfl rfl
theorem dksX2_line_15 : cX2_line.data.toList.drop 368 = dktX2_line_15 := dk_seg dksX2_line_14 22 rfl rfl
theorem dksX2_line_16 : cX2_line.data.toList.drop 391 = dktX2_line_16 := dk_seg dksX2_line_15 23 rfl rfl
theorem dksX2_line_17 : cX2_line.data.toList.drop 414 = dktX2_line_17 := dk_seg dksX2_line_16 23 rfl rfl
theorem dksX2_line_18 : cX2_line.data.toList.drop 436 = dktX2_line_18 := dk_seg dksX2_line_17 22 rfl rfl
theorem dX2_line_0 : decode cX2_line 0 = .ok (.aload_n 0, 1) := dk_42 (dk_at dksX2_line_0 0 rfl rfl)
theorem dX2_line_1 : decode cX2_line 1 = .ok (.getfield 47, 3) := dk_180 0 47 (dk_at dksX2_line_0 1 rfl rfl)
theorem dX2_line_4 : decode cX2_line 4 = .ok (.iconst 2, 1) := dk_5 (dk_at dksX2_line_0 4 rfl rfl)
theorem dX2_line_5 : decode cX2_line 5 = .ok (.if_icmp .eq 9, 3) := dk_159 0 9 (dk_at dksX2_line_0 5 rfl rfl)
theorem dX2_line_8 : decode cX2_line 8 = .ok (.aload_n 0, 1) := dk_42 (dk_at dksX2_line_0 8 rfl rfl)
theorem dX2_line_9 : decode cX2_line 9 = .ok (.iconst 1, 1) := dk_4 (dk_at dksX2_line_0 9 rfl rfl)
theorem dX2_line_10 : decode cX2_line 10 = .ok (.invokevirtual 85, 3) := dk_182 0 85 (dk_at dksX2_line_0 10 rfl rfl)
theorem dX2_line_13 : decode cX2_line 13 = .ok (.athrow, 1) := dk_191 (dk_at dksX2_line_0 13 rfl rfl)
theorem dX2_line_14 : decode cX2_line 14 = .ok (.aload_n 0, 1) := dk_42 (dk_at dksX2_line_0 14 rfl rfl)
theorem dX2_line_15 : decode cX2_line 15 = .ok (.getfield 61, 3) := dk_180 0 61 (dk_at dksX2_line_0 15 rfl rfl)
theorem dX2_line_18 : decode cX2_line 18 = .ok (.astore_n 1, 1) := dk_76 (dk_at dksX2_line_0 18 rfl rfl)
theorem dX2_line_19 : decode cX2_line 19 = .ok (.iconst (-1), 1) := dk_2 (dk_at dksX2_line_0 19 rfl rfl)
theorem dX2_line_20 : decode cX2_line 20 = .ok (.istore_n 2, 1) := dk_61 (dk_at dksX2_line_0 20 rfl rfl)
theorem dX2_line_21 : decode cX2_line 21 = .ok (.aload_n 1, 1) := dk_43 (dk_at dksX2_line_0 21 rfl rfl)
theorem dX2_line_22 : decode cX2_line 22 = .ok (.invokevirtual 89, 3) := dk_182 0 89 (dk_at dksX2_line_1 0 rfl rfl)
theorem dX2_line_25 : decode cX2_line 25 = .ok (.lookupswitch 163 #[(97543, 109), (110306, 151), (3092390, 67), (3530753, 137), (102977278, 95), (106934601, 123), (109433790, 81)], 67) := by decide +kernel
theorem dX2_line_92 : decode cX2_line 92 = .ok (.aload_n 1, 1) := dk_43 (dk_at dksX2_line_3 0 rfl rfl)
theorem dX2_line_93 : decode cX2_line 93 = .ok (.ldc 93, 2) := dk_18 93 (dk_at dksX2_line_3 1 rfl rfl)
theorem dX2_line_95 : decode cX2_line 95 = .ok (.invokevirtual 71, 3) := dk_182 0 71 (dk_at dksX2_line_3 3 rfl rfl)
theorem dX2_line_98 : decode cX2_line 98 = .ok (.ifCond .eq 90, 3) := dk_153 0 90 (dk_at dksX2_line_3 6 rfl rfl)
theorem dX2_line_101 : decode cX2_line 101 = .ok (.iconst 0, 1) := dk_3 (dk_at dksX2_line_3 9 rfl rfl)
theorem dX2_line_102 : decode cX2_line 102 = .ok (.istore_n 2, 1) := dk_61 (dk_at dksX2_line_3 10 rfl rfl)
theorem dX2_line_103 : decode cX2_line 103 = .ok (.goto 85, 3) := dk_167 0 85 (dk_at dksX2_line_3 11 rfl rfl)
theorem dX2_line_106 : decode cX2_line 106 = .ok (.aload_n 1, 1) := dk_43 (dk_at dksX2_line_3 14 rfl rfl)
theorem dX2_line_107 : decode cX2_line 107 = .ok (.ldc 95, 2) := dk_18 95 (dk_at dksX2_line_3 15 rfl rfl)
theorem dX2_line_109 : decode cX2_line 109 = .ok (.invokevirtual 71, 3) := dk_182 0 71 (dk_at dksX2_line_3 17 rfl rfl)
theorem dX2_line_112 : decode cX2_line 112 = .ok (.ifCond .eq 76, 3) := dk_153 0 76 (dk_at dksX2_line_3 20 rfl rfl)
theorem dX2_line_115 : decode cX2_line 115 = .ok (.iconst 1, 1) := dk_4 (dk_at dksX2_line_3 23 rfl rfl)
theorem dX2_line_116 : decode cX2_line 116 = .ok (.istore_n 2, 1) := dk_61 (dk_at dksX2_line_4 0 rfl rfl)
theorem dX2_line_117 : decode cX2_line 117 = .ok (.goto 71, 3) := dk_167 0 71 (dk_at dksX2_line_4 1 rfl rfl)
theorem dX2_line_120 : decode cX2_line 120 = .ok (.aload_n 1, 1) := dk_43 (dk_at dksX2_line_4 4 rfl rfl)
theorem dX2_line_121 : decode cX2_line 121 = .ok (.ldc 97, 2) := dk_18 97 (dk_at dksX2_line_4 5 rfl rfl)
theorem dX2_line_123 : decode cX2_line 123 = .ok (.invokevirtual 71, 3) := dk_182 0 71 (dk_at dksX2_line_4 7 rfl rfl)
theorem dX2_line_126 : decode cX2_line 126 = .ok (.ifCond .eq 62, 3) := dk_153 0 62 (dk_at dksX2_line_4 10 rfl rfl)
theorem dX2_line_129 : decode cX2_line 129 = .ok (.iconst 2, 1) := dk_5 (dk_at dksX2_line_4 13 rfl rfl)
theorem dX2_line_130 : decode cX2_line 130 = .ok (.istore_n 2, 1) := dk_61 (dk_at dksX2_line_4 14 rfl rfl)
theorem dX2_line_131 : decode cX2_line 131 = .ok (.goto 57, 3) := dk_167 0 57 (dk_at dksX2_line_4 15 rfl rfl)
theorem dX2_line_134 : decode cX2_line 134 = .ok (.aload_n 1, 1) := dk_43 (dk_at dksX2_line_4 18 rfl rfl)
theorem dX2_line_135 : decode cX2_line 135 = .ok (.ldc 99, 2) := dk_18 99 (dk_at dksX2_line_4 19 rfl rfl)
theorem dX2_line_137 : decode cX2_line 137 = .ok (.invokevirtual 71, 3) := dk_182 0 71 (dk_at dksX2_line_4 21 rfl rfl)
theorem dX2_line_140 : decode cX2_line 140 = .ok (.ifCond .eq 48, 3) := dk_153 0 48 (dk_at dksX2_line_5 0 rfl rfl)
theorem dX2_line_143 : decode cX2_line 143 = .ok (.iconst 3, 1) := dk_6 (dk_at dksX2_line_5 3 rfl rfl)
theorem dX2_line_144 : decode cX2_line 144 = .ok (.istore_n 2, 1) := dk_61 (dk_at dksX2_line_5 4 rfl rfl)
theorem dX2_line_145 : decode cX2_line 145 = .ok (.goto 43, 3) := dk_167 0 43 (dk_at dksX2_line_5 5 rfl rfl)
theorem dX2_line_148 : decode cX2_line 148 = .ok (.aload_n 1, 1) := dk_43 (dk_at dksX2_line_5 8 rfl rfl)
theorem dX2_line_149 : decode cX2_line 149 = .ok (.ldc 101, 2) := dk_18 101 (dk_at dksX2_line_5 9 rfl rfl)
theorem dX2_line_151 : decode cX2_line 151 = .ok (.invokevirtual 71, 3) := dk_182 0 71 (dk_at dksX2_line_5 11 rfl rfl)
theorem dX2_line_154 : decode cX2_line 154 = .ok (.ifCond .eq 34, 3) := dk_153 0 34 (dk_at dksX2_line_5 14 rfl rfl)
theorem dX2_line_157 : decode cX2_line 157 = .ok (.iconst 4, 1) := dk_7 (dk_at dksX2_line_5 17 rfl rfl)
theorem dX2_line_158 : decode cX2_line 158 = .ok (.istore_n 2, 1) := dk_61 (dk_at dksX2_line_5 18 rfl rfl)
theorem dX2_line_159 : decode cX2_line 159 = .ok (.goto 29, 3) := dk_167 0 29 (dk_at dksX2_line_5 19 rfl rfl)
theorem dX2_line_162 : decode cX2_line 162 = .ok (.aload_n 1, 1) := dk_43 (dk_at dksX2_line_5 22 rfl rfl)
theorem dX2_line_163 : decode cX2_line 163 = .ok (.ldc 103, 2) := dk_18 103 (dk_at dksX2_line_6 0 rfl rfl)
theorem dX2_line_165 : decode cX2_line 165 = .ok (.invokevirtual 71, 3) := dk_182 0 71 (dk_at dksX2_line_6 2 rfl rfl)
theorem dX2_line_168 : decode cX2_line 168 = .ok (.ifCond .eq 20, 3) := dk_153 0 20 (dk_at dksX2_line_6 5 rfl rfl)
theorem dX2_line_171 : decode cX2_line 171 = .ok (.iconst 5, 1) := dk_8 (dk_at dksX2_line_6 8 rfl rfl)
theorem dX2_line_172 : decode cX2_line 172 = .ok (.istore_n 2, 1) := dk_61 (dk_at dksX2_line_6 9 rfl rfl)
theorem dX2_line_173 : decode cX2_line 173 = .ok (.goto 15, 3) := dk_167 0 15 (dk_at dksX2_line_6 10 rfl rfl)
theorem dX2_line_176 : decode cX2_line 176 = .ok (.aload_n 1, 1) := dk_43 (dk_at dksX2_line_6 13 rfl rfl)
theorem dX2_line_177 : decode cX2_line 177 = .ok (.ldc 104, 2) := dk_18 104 (dk_at dksX2_line_6 14 rfl rfl)
theorem dX2_line_179 : decode cX2_line 179 = .ok (.invokevirtual 71, 3) := dk_182 0 71 (dk_at dksX2_line_6 16 rfl rfl)
theorem dX2_line_182 : decode cX2_line 182 = .ok (.ifCond .eq 6, 3) := dk_153 0 6 (dk_at dksX2_line_6 19 rfl rfl)
theorem dX2_line_185 : decode cX2_line 185 = .ok (.bipush 6, 2) := dk_16 6 (dk_at dksX2_line_6 22 rfl rfl)
theorem dX2_line_187 : decode cX2_line 187 = .ok (.istore_n 2, 1) := dk_61 (dk_at dksX2_line_7 0 rfl rfl)
theorem dX2_line_188 : decode cX2_line 188 = .ok (.iload_n 2, 1) := dk_28 (dk_at dksX2_line_7 1 rfl rfl)
theorem dX2_line_189 : decode cX2_line 189 = .ok (.tableswitch 257 0 6 #[43, 111, 118, 155, 217, 243, 250], 43) := by decide +kernel
theorem dX2_line_232 : decode cX2_line 232 = .ok (.aload_n 0, 1) := dk_42 (dk_at dksX2_line_9 0 rfl rfl)
theorem dX2_line_233 : decode cX2_line 233 = .ok (.aload_n 0, 1) := dk_42 (dk_at dksX2_line_9 1 rfl rfl)
theorem dX2_line_234 : decode cX2_line 234 = .ok (.getfield 109, 3) := dk_180 0 109 (dk_at dksX2_line_9 2 rfl rfl)
theorem dX2_line_237 : decode cX2_line 237 = .ok (.getfield 127, 3) := dk_180 0 127 (dk_at dksX2_line_9 5 rfl rfl)
theorem dX2_line_240 : decode cX2_line 240 = .ok (.ifCond .ne 7, 3) := dk_154 0 7 (dk_at dksX2_line_9 8 rfl rfl)
theorem dX2_line_243 : decode cX2_line 243 = .ok (.iconst 1, 1) := dk_4 (dk_at dksX2_line_9 11 rfl rfl)
theorem dX2_line_244 : decode cX2_line 244 = .ok (.goto 4, 3) := dk_167 0 4 (dk_at dksX2_line_9 12 rfl rfl)
theorem dX2_line_247 : decode cX2_line 247 = .ok (.iconst 0, 1) := dk_3 (dk_at dksX2_line_9 15 rfl rfl)
theorem dX2_line_248 : decode cX2_line 248 = .ok (.invokevirtual 130, 3) := dk_182 0 130 (dk_at dksX2_line_9 16 rfl rfl)
theorem dX2_line_251 : decode cX2_line 251 = .ok (.aload_n 0, 1) := dk_42 (dk_at dksX2_line_9 19 rfl rfl)
theorem dX2_line_252 : decode cX2_line 252 = .ok (.ldc 134, 2) := dk_18 134 (dk_at dksX2_line_9 20 rfl rfl)
theorem dX2_line_254 : decode cX2_line 254 = .ok (.invokevirtual 135, 3) := dk_182 0 135 (dk_at dksX2_line_10 0 rfl rfl)
theorem dX2_line_257 : decode cX2_line 257 = .ok (.aload_n 0, 1) := dk_42 (dk_at dksX2_line_10 3 rfl rfl)
theorem dX2_line_258 : decode cX2_line 258 = .ok (.bipush 20, 2) := dk_16 20 (dk_at dksX2_line_10 4 rfl rfl)
theorem dX2_line_260 : decode cX2_line 260 = .ok (.sipush 999, 3) := dk_17 3 231 (dk_at dksX2_line_10 6 rfl rfl)
theorem dX2_line_263 : decode cX2_line 263 = .ok (.invokevirtual 139, 3) := dk_182 0 139 (dk_at dksX2_line_10 9 rfl rfl)
theorem dX2_line_266 : decode cX2_line 266 = .ok (.istore_n 3, 1) := dk_62 (dk_at dksX2_line_10 12 rfl rfl)
theorem dX2_line_267 : decode cX2_line 267 = .ok (.aload_n 0, 1) := dk_42 (dk_at dksX2_line_10 13 rfl rfl)
theorem dX2_line_268 : decode cX2_line 268 = .ok (.ldc 143, 2) := dk_18 143 (dk_at dksX2_line_10 14 rfl rfl)
theorem dX2_line_270 : decode cX2_line 270 = .ok (.invokevirtual 135, 3) := dk_182 0 135 (dk_at dksX2_line_10 16 rfl rfl)
theorem dX2_line_273 : decode cX2_line 273 = .ok (.aload_n 0, 1) := dk_42 (dk_at dksX2_line_10 19 rfl rfl)
theorem dX2_line_274 : decode cX2_line 274 = .ok (.getfield 109, 3) := dk_180 0 109 (dk_at dksX2_line_10 20 rfl rfl)
theorem dX2_line_277 : decode cX2_line 277 = .ok (.aload_n 0, 1) := dk_42 (dk_at dksX2_line_10 23 rfl rfl)
theorem dX2_line_278 : decode cX2_line 278 = .ok (.bipush 10, 2) := dk_16 10 (dk_at dksX2_line_11 0 rfl rfl)
theorem dX2_line_280 : decode cX2_line 280 = .ok (.sipush 200, 3) := dk_17 0 200 (dk_at dksX2_line_11 2 rfl rfl)
theorem dX2_line_283 : decode cX2_line 283 = .ok (.invokevirtual 139, 3) := dk_182 0 139 (dk_at dksX2_line_11 5 rfl rfl)
theorem dX2_line_286 : decode cX2_line 286 = .ok (.putfield 145, 3) := dk_181 0 145 (dk_at dksX2_line_11 8 rfl rfl)
theorem dX2_line_289 : decode cX2_line 289 = .ok (.aload_n 0, 1) := dk_42 (dk_at dksX2_line_11 11 rfl rfl)
theorem dX2_line_290 : decode cX2_line 290 = .ok (.getfield 109, 3) := dk_180 0 109 (dk_at dksX2_line_11 12 rfl rfl)
theorem dX2_line_293 : decode cX2_line 293 = .ok (.iload_n 3, 1) := dk_29 (dk_at dksX2_line_11 15 rfl rfl)
theorem dX2_line_294 : decode cX2_line 294 = .ok (.putfield 127, 3) := dk_181 0 127 (dk_at dksX2_line_11 16 rfl rfl)
theorem dX2_line_297 : decode cX2_line 297 = .ok (.goto 155, 3) := dk_167 0 155 (dk_at dksX2_line_11 19 rfl rfl)
theorem dX2_line_300 : decode cX2_line 300 = .ok (.aload_n 0, 1) := dk_42 (dk_at dksX2_line_11 22 rfl rfl)
theorem dX2_line_301 : decode cX2_line 301 = .ok (.invokevirtual 147, 3) := dk_182 0 147 (dk_at dksX2_line_12 0 rfl rfl)
theorem dX2_line_304 : decode cX2_line 304 = .ok (.goto 148, 3) := dk_167 0 148 (dk_at dksX2_line_12 3 rfl rfl)
theorem dX2_line_307 : decode cX2_line 307 = .ok (.aload_n 0, 1) := dk_42 (dk_at dksX2_line_12 6 rfl rfl)
theorem dX2_line_308 : decode cX2_line 308 = .ok (.aload_n 0, 1) := dk_42 (dk_at dksX2_line_12 7 rfl rfl)
theorem dX2_line_309 : decode cX2_line 309 = .ok (.getfield 109, 3) := dk_180 0 109 (dk_at dksX2_line_12 8 rfl rfl)
theorem dX2_line_312 : decode cX2_line 312 = .ok (.getfield 149, 3) := dk_180 0 149 (dk_at dksX2_line_12 11 rfl rfl)
theorem dX2_line_315 : decode cX2_line 315 = .ok (.ifCond .ne 7, 3) := dk_154 0 7 (dk_at dksX2_line_12 14 rfl rfl)
theorem dX2_line_318 : decode cX2_line 318 = .ok (.iconst 1, 1) := dk_4 (dk_at dksX2_line_12 17 rfl rfl)
theorem dX2_line_319 : decode cX2_line 319 = .ok (.goto 4, 3) := dk_167 0 4 (dk_at dksX2_line_12 18 rfl rfl)
theorem dX2_line_322 : decode cX2_line 322 = .ok (.iconst 0, 1) := dk_3 (dk_at dksX2_line_12 21 rfl rfl)
theorem dX2_line_323 : decode cX2_line 323 = .ok (.invokevirtual 130, 3) := dk_182 0 130 (dk_at dksX2_line_13 0 rfl rfl)
theorem dX2_line_326 : decode cX2_line 326 = .ok (.aload_n 0, 1) := dk_42 (dk_at dksX2_line_13 3 rfl rfl)
theorem dX2_line_327 : decode cX2_line 327 = .ok (.getfield 109, 3) := dk_180 0 109 (dk_at dksX2_line_13 4 rfl rfl)
theorem dX2_line_330 : decode cX2_line 330 = .ok (.aload_n 0, 1) := dk_42 (dk_at dksX2_line_13 7 rfl rfl)
theorem dX2_line_331 : decode cX2_line 331 = .ok (.iconst 1, 1) := dk_4 (dk_at dksX2_line_13 8 rfl rfl)
theorem dX2_line_332 : decode cX2_line 332 = .ok (.sipush 200, 3) := dk_17 0 200 (dk_at dksX2_line_13 9 rfl rfl)
theorem dX2_line_335 : decode cX2_line 335 = .ok (.invokevirtual 139, 3) := dk_182 0 139 (dk_at dksX2_line_13 12 rfl rfl)
theorem dX2_line_338 : decode cX2_line 338 = .ok (.putfield 149, 3) := dk_181 0 149 (dk_at dksX2_line_13 15 rfl rfl)
theorem dX2_line_341 : decode cX2_line 341 = .ok (.goto 111, 3) := dk_167 0 111 (dk_at dksX2_line_13 18 rfl rfl)
theorem dX2_line_344 : decode cX2_line 344 = .ok (.aload_n 0, 1) := dk_42 (dk_at dksX2_line_13 21 rfl rfl)
theorem dX2_line_345 : decode cX2_line 345 = .ok (.aload_n 0, 1) := dk_42 (dk_at dksX2_line_13 22 rfl rfl)
theorem dX2_line_346 : decode cX2_line 346 = .ok (.getfield 109, 3) := dk_180 0 109 (dk_at dksX2_line_14 0 rfl rfl)
theorem dX2_line_349 : decode cX2_line 349 = .ok (.getfield 152, 3) := dk_180 0 152 (dk_at dksX2_line_14 3 rfl rfl)
theorem dX2_line_352 : decode cX2_line 352 = .ok (.ifCond .ne 7, 3) := dk_154 0 7 (dk_at dksX2_line_14 6 rfl rfl)
theorem dX2_line_355 : decode cX2_line 355 = .ok (.iconst 1, 1) := dk_4 (dk_at dksX2_line_14 9 rfl rfl)
theorem dX2_line_356 : decode cX2_line 356 = .ok (.goto 4, 3) := dk_167 0 4 (dk_at dksX2_line_14 10 rfl rfl)
theorem dX2_line_359 : decode cX2_line 359 = .ok (.iconst 0, 1) := dk_3 (dk_at dksX2_line_14 13 rfl rfl)
theorem dX2_line_360 : decode cX2_line 360 = .ok (.invokevirtual 130, 3) := dk_182 0 130 (dk_at dksX2_line_14 14 rfl rfl)
theorem dX2_line_363 : decode cX2_line 363 = .ok (.aload_n 0, 1) := dk_42 (dk_at dksX2_line_14 17 rfl rfl)
theorem dX2_line_364 : decode cX2_line 364 = .ok (.iconst 1, 1) := dk_4 (dk_at dksX2_line_14 18 rfl rfl)
theorem dX2_line_365 : decode cX2_line 365 = .ok (.sipush 999, 3) := dk_17 3 231 (dk_at dksX2_line_14 19 rfl rfl)
theorem dX2_line_368 : decode cX2_line 368 = .ok (.invokevirtual 139, 3) := dk_182 0 139 (dk_at dksX2_line_15 0 rfl rfl)
theorem dX2_line_371 : decode cX2_line 371 = .ok (.istore 4, 2) := dk_54 4 (dk_at dksX2_line_15 3 rfl rfl)
theorem dX2_line_373 : decode cX2_line 373 = .ok (.aload_n 0, 1) := dk_42 (dk_at dksX2_line_15 5 rfl rfl)
theorem dX2_line_374 : decode cX2_line 374 = .ok (.ldc 154, 2) := dk_18 154 (dk_at dksX2_line_15 6 rfl rfl)
theorem dX2_line_376 : decode cX2_line 376 = .ok (.invokevirtual 135, 3) := dk_182 0 135 (dk_at dksX2_line_15 8 rfl rfl)
theorem dX2_line_379 : decode cX2_line 379 = .ok (.aload_n 0, 1) := dk_42 (dk_at dksX2_line_15 11 rfl rfl)
theorem dX2_line_380 : decode cX2_line 380 = .ok (.getfield 109, 3) := dk_180 0 109 (dk_at dksX2_line_15 12 rfl rfl)
theorem dX2_line_383 : decode cX2_line 383 = .ok (.aload_n 0, 1) := dk_42 (dk_at dksX2_line_15 15 rfl rfl)
theorem dX2_line_384 : decode cX2_line 384 = .ok (.iconst 0, 1) := dk_3 (dk_at dksX2_line_15 16 rfl rfl)
theorem dX2_line_385 : decode cX2_line 385 = .ok (.sipush 200, 3) := dk_17 0 200 (dk_at dksX2_line_15 17 rfl rfl)
theorem dX2_line_388 : decode cX2_line 388 = .ok (.invokevirtual 139, 3) := dk_182 0 139 (dk_at dksX2_line_15 20 rfl rfl)
theorem dX2_line_391 : decode cX2_line 391 = .ok (.putfield 156, 3) := dk_181 0 156 (dk_at dksX2_line_16 0 rfl rfl)
theorem dX2_line_394 : decode cX2_line 394 = .ok (.aload_n 0, 1) := dk_42 (dk_at dksX2_line_16 3 rfl rfl)
theorem dX2_line_395 : decode cX2_line 395 = .ok (.getfield 109, 3) := dk_180 0 109 (dk_at dksX2_line_16 4 rfl rfl)
theorem dX2_line_398 : decode cX2_line 398 = .ok (.iload 4, 2) := dk_21 4 (dk_at dksX2_line_16 7 rfl rfl)
theorem dX2_line_400 : decode cX2_line 400 = .ok (.putfield 152, 3) := dk_181 0 152 (dk_at dksX2_line_16 9 rfl rfl)
theorem dX2_line_403 : decode cX2_line 403 = .ok (.goto 49, 3) := dk_167 0 49 (dk_at dksX2_line_16 12 rfl rfl)
theorem dX2_line_406 : decode cX2_line 406 = .ok (.aload_n 0, 1) := dk_42 (dk_at dksX2_line_16 15 rfl rfl)
theorem dX2_line_407 : decode cX2_line 407 = .ok (.aload_n 0, 1) := dk_42 (dk_at dksX2_line_16 16 rfl rfl)
theorem dX2_line_408 : decode cX2_line 408 = .ok (.getfield 109, 3) := dk_180 0 109 (dk_at dksX2_line_16 17 rfl rfl)
theorem dX2_line_411 : decode cX2_line 411 = .ok (.getfield 158, 3) := dk_180 0 158 (dk_at dksX2_line_16 20 rfl rfl)
theorem dX2_line_414 : decode cX2_line 414 = .ok (.ifCond .ne 7, 3) := dk_154 0 7 (dk_at dksX2_line_17 0 rfl rfl)
theorem dX2_line_417 : decode cX2_line 417 = .ok (.iconst 1, 1) := dk_4 (dk_at dksX2_line_17 3 rfl rfl)
theorem dX2_line_418 : decode cX2_line 418 = .ok (.goto 4, 3) := dk_167 0 4 (dk_at dksX2_line_17 4 rfl rfl)
theorem dX2_line_421 : decode cX2_line 421 = .ok (.iconst 0, 1) := dk_3 (dk_at dksX2_line_17 7 rfl rfl)
theorem dX2_line_422 : decode cX2_line 422 = .ok (.invokevirtual 130, 3) := dk_182 0 130 (dk_at dksX2_line_17 8 rfl rfl)
theorem dX2_line_425 : decode cX2_line 425 = .ok (.aload_n 0, 1) := dk_42 (dk_at dksX2_line_17 11 rfl rfl)
theorem dX2_line_426 : decode cX2_line 426 = .ok (.invokevirtual 161, 3) := dk_182 0 161 (dk_at dksX2_line_17 12 rfl rfl)
theorem dX2_line_429 : decode cX2_line 429 = .ok (.goto 23, 3) := dk_167 0 23 (dk_at dksX2_line_17 15 rfl rfl)
theorem dX2_line_432 : decode cX2_line 432 = .ok (.aload_n 0, 1) := dk_42 (dk_at dksX2_line_17 18 rfl rfl)
theorem dX2_line_433 : decode cX2_line 433 = .ok (.invokevirtual 164, 3) := dk_182 0 164 (dk_at dksX2_line_17 19 rfl rfl)
theorem dX2_line_436 : decode cX2_line 436 = .ok (.goto 16, 3) := dk_167 0 16 (dk_at dksX2_line_18 0 rfl rfl)
theorem dX2_line_439 : decode cX2_line 439 = .ok (.aload_n 0, 1) := dk_42 (dk_at dksX2_line_18 3 rfl rfl)
theorem dX2_line_440 : decode cX2_line 440 = .ok (.invokevirtual 166, 3) := dk_182 0 166 (dk_at dksX2_line_18 4 rfl rfl)
theorem dX2_line_443 : decode cX2_line 443 = .ok (.goto 9, 3) := dk_167 0 9 (dk_at dksX2_line_18 7 rfl rfl)
theorem dX2_line_446 : decode cX2_line 446 = .ok (.aload_n 0, 1) := dk_42 (dk_at dksX2_line_18 10 rfl rfl)
theorem dX2_line_447 : decode cX2_line 447 = .ok (.iconst 1, 1) := dk_4 (dk_at dksX2_line_18 11 rfl rfl)
theorem dX2_line_448 : decode cX2_line 448 = .ok (.invokevirtual 85, 3) := dk_182 0 85 (dk_at dksX2_line_18 12 rfl rfl)
theorem dX2_line_451 : decode cX2_line 451 = .ok (.athrow, 1) := dk_191 (dk_at dksX2_line_18 15 rfl rfl)
theorem dX2_line_452 : decode cX2_line 452 = .ok (.return_, 1) := dk_177 (dk_at dksX2_line_18 16 rfl rfl)
abbrev cX2_fail : ByteArray := prog_6_method_2_code
def yX2_fail : MethodName := ⟨RX2, "fail", "(I)LRoarMill$Refused;"⟩
def dkwX2_fail_0 : List UInt8 := [42, 180, 0, 12, 27, 42, 180, 0, 26, 182, 0, 30, 176]
abbrev dktX2_fail_0 : List UInt8 := dkwX2_fail_0 ++ []
theorem dksX2_fail_0 : cX2_fail.data.toList.drop 0 = dktX2_fail_0 := by decide +kernel
theorem dX2_fail_0 : decode cX2_fail 0 = .ok (.aload_n 0, 1) := dk_42 (dk_at dksX2_fail_0 0 rfl rfl)
theorem dX2_fail_1 : decode cX2_fail 1 = .ok (.getfield 12, 3) := dk_180 0 12 (dk_at dksX2_fail_0 1 rfl rfl)
theorem dX2_fail_4 : decode cX2_fail 4 = .ok (.iload_n 1, 1) := dk_27 (dk_at dksX2_fail_0 4 rfl rfl)
theorem dX2_fail_5 : decode cX2_fail 5 = .ok (.aload_n 0, 1) := dk_42 (dk_at dksX2_fail_0 5 rfl rfl)
theorem dX2_fail_6 : decode cX2_fail 6 = .ok (.getfield 26, 3) := dk_180 0 26 (dk_at dksX2_fail_0 6 rfl rfl)
theorem dX2_fail_9 : decode cX2_fail 9 = .ok (.invokevirtual 30, 3) := dk_182 0 30 (dk_at dksX2_fail_0 9 rfl rfl)
theorem dX2_fail_12 : decode cX2_fail 12 = .ok (.areturn, 1) := dk_176 (dk_at dksX2_fail_0 12 rfl rfl)
abbrev cX2_once : ByteArray := prog_6_method_13_code
def yX2_once : MethodName := ⟨RX2, "once", "(Z)V"⟩
def dkwX2_once_0 : List UInt8 := [27, 154, 0, 9, 42, 6, 182, 0, 85, 191, 42, 182, 0, 79, 177]
abbrev dktX2_once_0 : List UInt8 := dkwX2_once_0 ++ []
theorem dksX2_once_0 : cX2_once.data.toList.drop 0 = dktX2_once_0 := by decide +kernel
theorem dX2_once_0 : decode cX2_once 0 = .ok (.iload_n 1, 1) := dk_27 (dk_at dksX2_once_0 0 rfl rfl)
theorem dX2_once_1 : decode cX2_once 1 = .ok (.ifCond .ne 9, 3) := dk_154 0 9 (dk_at dksX2_once_0 1 rfl rfl)
theorem dX2_once_4 : decode cX2_once 4 = .ok (.aload_n 0, 1) := dk_42 (dk_at dksX2_once_0 4 rfl rfl)
theorem dX2_once_5 : decode cX2_once 5 = .ok (.iconst 3, 1) := dk_6 (dk_at dksX2_once_0 5 rfl rfl)
theorem dX2_once_6 : decode cX2_once 6 = .ok (.invokevirtual 85, 3) := dk_182 0 85 (dk_at dksX2_once_0 6 rfl rfl)
theorem dX2_once_9 : decode cX2_once 9 = .ok (.athrow, 1) := dk_191 (dk_at dksX2_once_0 9 rfl rfl)
theorem dX2_once_10 : decode cX2_once 10 = .ok (.aload_n 0, 1) := dk_42 (dk_at dksX2_once_0 10 rfl rfl)
theorem dX2_once_11 : decode cX2_once 11 = .ok (.invokevirtual 79, 3) := dk_182 0 79 (dk_at dksX2_once_0 11 rfl rfl)
theorem dX2_once_14 : decode cX2_once 14 = .ok (.return_, 1) := dk_177 (dk_at dksX2_once_0 14 rfl rfl)
abbrev cX2_must : ByteArray := prog_6_method_9_code
def yX2_must : MethodName := ⟨RX2, "must", "(Ljava/lang/String;)V"⟩
def dkwX2_must_0 : List UInt8 := [42, 43, 182, 0, 82, 154, 0, 9, 42, 4, 182, 0, 85, 191, 177]
abbrev dktX2_must_0 : List UInt8 := dkwX2_must_0 ++ []
theorem dksX2_must_0 : cX2_must.data.toList.drop 0 = dktX2_must_0 := by decide +kernel
theorem dX2_must_0 : decode cX2_must 0 = .ok (.aload_n 0, 1) := dk_42 (dk_at dksX2_must_0 0 rfl rfl)
theorem dX2_must_1 : decode cX2_must 1 = .ok (.aload_n 1, 1) := dk_43 (dk_at dksX2_must_0 1 rfl rfl)
theorem dX2_must_2 : decode cX2_must 2 = .ok (.invokevirtual 82, 3) := dk_182 0 82 (dk_at dksX2_must_0 2 rfl rfl)
theorem dX2_must_5 : decode cX2_must 5 = .ok (.ifCond .ne 9, 3) := dk_154 0 9 (dk_at dksX2_must_0 5 rfl rfl)
theorem dX2_must_8 : decode cX2_must 8 = .ok (.aload_n 0, 1) := dk_42 (dk_at dksX2_must_0 8 rfl rfl)
theorem dX2_must_9 : decode cX2_must 9 = .ok (.iconst 1, 1) := dk_4 (dk_at dksX2_must_0 9 rfl rfl)
theorem dX2_must_10 : decode cX2_must 10 = .ok (.invokevirtual 85, 3) := dk_182 0 85 (dk_at dksX2_must_0 10 rfl rfl)
theorem dX2_must_13 : decode cX2_must 13 = .ok (.athrow, 1) := dk_191 (dk_at dksX2_must_0 13 rfl rfl)
theorem dX2_must_14 : decode cX2_must 14 = .ok (.return_, 1) := dk_177 (dk_at dksX2_must_0 14 rfl rfl)
abbrev cX2_takes : ByteArray := prog_6_method_8_code
def yX2_takes : MethodName := ⟨RX2, "takes", "(Ljava/lang/String;)Z"⟩
def dkwX2_takes_0 : List UInt8 := [42, 43, 182, 0, 75, 154, 0, 5, 3, 172, 42, 182, 0, 79, 4, 172]
abbrev dktX2_takes_0 : List UInt8 := dkwX2_takes_0 ++ []
theorem dksX2_takes_0 : cX2_takes.data.toList.drop 0 = dktX2_takes_0 := by decide +kernel
theorem dX2_takes_0 : decode cX2_takes 0 = .ok (.aload_n 0, 1) := dk_42 (dk_at dksX2_takes_0 0 rfl rfl)
theorem dX2_takes_1 : decode cX2_takes 1 = .ok (.aload_n 1, 1) := dk_43 (dk_at dksX2_takes_0 1 rfl rfl)
theorem dX2_takes_2 : decode cX2_takes 2 = .ok (.invokevirtual 75, 3) := dk_182 0 75 (dk_at dksX2_takes_0 2 rfl rfl)
theorem dX2_takes_5 : decode cX2_takes 5 = .ok (.ifCond .ne 5, 3) := dk_154 0 5 (dk_at dksX2_takes_0 5 rfl rfl)
theorem dX2_takes_8 : decode cX2_takes 8 = .ok (.iconst 0, 1) := dk_3 (dk_at dksX2_takes_0 8 rfl rfl)
theorem dX2_takes_9 : decode cX2_takes 9 = .ok (.ireturn, 1) := dk_172 (dk_at dksX2_takes_0 9 rfl rfl)
theorem dX2_takes_10 : decode cX2_takes 10 = .ok (.aload_n 0, 1) := dk_42 (dk_at dksX2_takes_0 10 rfl rfl)
theorem dX2_takes_11 : decode cX2_takes 11 = .ok (.invokevirtual 79, 3) := dk_182 0 79 (dk_at dksX2_takes_0 11 rfl rfl)
theorem dX2_takes_14 : decode cX2_takes 14 = .ok (.iconst 1, 1) := dk_4 (dk_at dksX2_takes_0 14 rfl rfl)
theorem dX2_takes_15 : decode cX2_takes 15 = .ok (.ireturn, 1) := dk_172 (dk_at dksX2_takes_0 15 rfl rfl)
abbrev cX2_isWord : ByteArray := prog_6_method_7_code
def yX2_isWord : MethodName := ⟨RX2, "isWord", "(Ljava/lang/String;)Z"⟩
def dkwX2_isWord_1 : List UInt8 := [172]
abbrev dktX2_isWord_1 : List UInt8 := dkwX2_isWord_1 ++ []
def dkwX2_isWord_0 : List UInt8 := [42, 180, 0, 47, 5, 160, 0, 18, 42, 180, 0, 61, 43, 182, 0, 71, 153, 0, 7, 4, 167, 0, 4, 3]
abbrev dktX2_isWord_0 : List UInt8 := dkwX2_isWord_0 ++ dktX2_isWord_1
theorem dksX2_isWord_0 : cX2_isWord.data.toList.drop 0 = dktX2_isWord_0 := by decide +kernel
theorem dksX2_isWord_1 : cX2_isWord.data.toList.drop 24 = dktX2_isWord_1 := dk_seg dksX2_isWord_0 24 rfl rfl
theorem dX2_isWord_0 : decode cX2_isWord 0 = .ok (.aload_n 0, 1) := dk_42 (dk_at dksX2_isWord_0 0 rfl rfl)
theorem dX2_isWord_1 : decode cX2_isWord 1 = .ok (.getfield 47, 3) := dk_180 0 47 (dk_at dksX2_isWord_0 1 rfl rfl)
theorem dX2_isWord_4 : decode cX2_isWord 4 = .ok (.iconst 2, 1) := dk_5 (dk_at dksX2_isWord_0 4 rfl rfl)
theorem dX2_isWord_5 : decode cX2_isWord 5 = .ok (.if_icmp .ne 18, 3) := dk_160 0 18 (dk_at dksX2_isWord_0 5 rfl rfl)
theorem dX2_isWord_8 : decode cX2_isWord 8 = .ok (.aload_n 0, 1) := dk_42 (dk_at dksX2_isWord_0 8 rfl rfl)
theorem dX2_isWord_9 : decode cX2_isWord 9 = .ok (.getfield 61, 3) := dk_180 0 61 (dk_at dksX2_isWord_0 9 rfl rfl)
theorem dX2_isWord_12 : decode cX2_isWord 12 = .ok (.aload_n 1, 1) := dk_43 (dk_at dksX2_isWord_0 12 rfl rfl)
theorem dX2_isWord_13 : decode cX2_isWord 13 = .ok (.invokevirtual 71, 3) := dk_182 0 71 (dk_at dksX2_isWord_0 13 rfl rfl)
theorem dX2_isWord_16 : decode cX2_isWord 16 = .ok (.ifCond .eq 7, 3) := dk_153 0 7 (dk_at dksX2_isWord_0 16 rfl rfl)
theorem dX2_isWord_19 : decode cX2_isWord 19 = .ok (.iconst 1, 1) := dk_4 (dk_at dksX2_isWord_0 19 rfl rfl)
theorem dX2_isWord_20 : decode cX2_isWord 20 = .ok (.goto 4, 3) := dk_167 0 4 (dk_at dksX2_isWord_0 20 rfl rfl)
theorem dX2_isWord_23 : decode cX2_isWord 23 = .ok (.iconst 0, 1) := dk_3 (dk_at dksX2_isWord_0 23 rfl rfl)
theorem dX2_isWord_24 : decode cX2_isWord 24 = .ok (.ireturn, 1) := dk_172 (dk_at dksX2_isWord_1 0 rfl rfl)
abbrev cX2_number : ByteArray := prog_6_method_12_code
def yX2_number : MethodName := ⟨RX2, "number", "(II)I"⟩
def dkwX2_number_1 : List UInt8 := [154, 0, 9, 42, 7, 182, 0, 85, 191, 42, 180, 0, 68, 62, 42, 182, 0, 79, 29, 172]
abbrev dktX2_number_1 : List UInt8 := dkwX2_number_1 ++ []
def dkwX2_number_0 : List UInt8 := [42, 180, 0, 47, 6, 159, 0, 9, 42, 4, 182, 0, 85, 191, 42, 180, 0, 68, 27, 28, 184, 0, 36]
abbrev dktX2_number_0 : List UInt8 := dkwX2_number_0 ++ dktX2_number_1
theorem dksX2_number_0 : cX2_number.data.toList.drop 0 = dktX2_number_0 := by decide +kernel
theorem dksX2_number_1 : cX2_number.data.toList.drop 23 = dktX2_number_1 := dk_seg dksX2_number_0 23 rfl rfl
theorem dX2_number_0 : decode cX2_number 0 = .ok (.aload_n 0, 1) := dk_42 (dk_at dksX2_number_0 0 rfl rfl)
theorem dX2_number_1 : decode cX2_number 1 = .ok (.getfield 47, 3) := dk_180 0 47 (dk_at dksX2_number_0 1 rfl rfl)
theorem dX2_number_4 : decode cX2_number 4 = .ok (.iconst 3, 1) := dk_6 (dk_at dksX2_number_0 4 rfl rfl)
theorem dX2_number_5 : decode cX2_number 5 = .ok (.if_icmp .eq 9, 3) := dk_159 0 9 (dk_at dksX2_number_0 5 rfl rfl)
theorem dX2_number_8 : decode cX2_number 8 = .ok (.aload_n 0, 1) := dk_42 (dk_at dksX2_number_0 8 rfl rfl)
theorem dX2_number_9 : decode cX2_number 9 = .ok (.iconst 1, 1) := dk_4 (dk_at dksX2_number_0 9 rfl rfl)
theorem dX2_number_10 : decode cX2_number 10 = .ok (.invokevirtual 85, 3) := dk_182 0 85 (dk_at dksX2_number_0 10 rfl rfl)
theorem dX2_number_13 : decode cX2_number 13 = .ok (.athrow, 1) := dk_191 (dk_at dksX2_number_0 13 rfl rfl)
theorem dX2_number_14 : decode cX2_number 14 = .ok (.aload_n 0, 1) := dk_42 (dk_at dksX2_number_0 14 rfl rfl)
theorem dX2_number_15 : decode cX2_number 15 = .ok (.getfield 68, 3) := dk_180 0 68 (dk_at dksX2_number_0 15 rfl rfl)
theorem dX2_number_18 : decode cX2_number 18 = .ok (.iload_n 1, 1) := dk_27 (dk_at dksX2_number_0 18 rfl rfl)
theorem dX2_number_19 : decode cX2_number 19 = .ok (.iload_n 2, 1) := dk_28 (dk_at dksX2_number_0 19 rfl rfl)
theorem dX2_number_20 : decode cX2_number 20 = .ok (.invokestatic 36, 3) := dk_184 0 36 (dk_at dksX2_number_0 20 rfl rfl)
theorem dX2_number_23 : decode cX2_number 23 = .ok (.ifCond .ne 9, 3) := dk_154 0 9 (dk_at dksX2_number_1 0 rfl rfl)
theorem dX2_number_26 : decode cX2_number 26 = .ok (.aload_n 0, 1) := dk_42 (dk_at dksX2_number_1 3 rfl rfl)
theorem dX2_number_27 : decode cX2_number 27 = .ok (.iconst 4, 1) := dk_7 (dk_at dksX2_number_1 4 rfl rfl)
theorem dX2_number_28 : decode cX2_number 28 = .ok (.invokevirtual 85, 3) := dk_182 0 85 (dk_at dksX2_number_1 5 rfl rfl)
theorem dX2_number_31 : decode cX2_number 31 = .ok (.athrow, 1) := dk_191 (dk_at dksX2_number_1 8 rfl rfl)
theorem dX2_number_32 : decode cX2_number 32 = .ok (.aload_n 0, 1) := dk_42 (dk_at dksX2_number_1 9 rfl rfl)
theorem dX2_number_33 : decode cX2_number 33 = .ok (.getfield 68, 3) := dk_180 0 68 (dk_at dksX2_number_1 10 rfl rfl)
theorem dX2_number_36 : decode cX2_number 36 = .ok (.istore_n 3, 1) := dk_62 (dk_at dksX2_number_1 13 rfl rfl)
theorem dX2_number_37 : decode cX2_number 37 = .ok (.aload_n 0, 1) := dk_42 (dk_at dksX2_number_1 14 rfl rfl)
theorem dX2_number_38 : decode cX2_number 38 = .ok (.invokevirtual 79, 3) := dk_182 0 79 (dk_at dksX2_number_1 15 rfl rfl)
theorem dX2_number_41 : decode cX2_number 41 = .ok (.iload_n 3, 1) := dk_29 (dk_at dksX2_number_1 18 rfl rfl)
theorem dX2_number_42 : decode cX2_number 42 = .ok (.ireturn, 1) := dk_172 (dk_at dksX2_number_1 19 rfl rfl)
abbrev cX2_sieve : ByteArray := prog_6_method_16_code
def yX2_sieve : MethodName := ⟨RX2, "sieve", "()V"⟩
def dkwX2_sieve_3 : List UInt8 := [180, 0, 109, 27, 181, 0, 168, 177]
abbrev dktX2_sieve_3 : List UInt8 := dkwX2_sieve_3 ++ []
def dkwX2_sieve_2 : List UInt8 := [182, 0, 79, 42, 18, 174, 182, 0, 135, 42, 180, 0, 109, 42, 3, 16, 50, 182, 0, 139, 181, 0, 176, 42]
abbrev dktX2_sieve_2 : List UInt8 := dkwX2_sieve_2 ++ dktX2_sieve_3
def dkwX2_sieve_1 : List UInt8 := [42, 180, 0, 109, 42, 180, 0, 61, 182, 0, 170, 60, 27, 2, 160, 0, 9, 42, 5, 182, 0, 85, 191, 42]
abbrev dktX2_sieve_1 : List UInt8 := dkwX2_sieve_1 ++ dktX2_sieve_2
def dkwX2_sieve_0 : List UInt8 := [42, 42, 180, 0, 109, 180, 0, 168, 2, 160, 0, 7, 4, 167, 0, 4, 3, 182, 0, 130, 42, 182, 0, 106]
abbrev dktX2_sieve_0 : List UInt8 := dkwX2_sieve_0 ++ dktX2_sieve_1
theorem dksX2_sieve_0 : cX2_sieve.data.toList.drop 0 = dktX2_sieve_0 := by decide +kernel
theorem dksX2_sieve_1 : cX2_sieve.data.toList.drop 24 = dktX2_sieve_1 := dk_seg dksX2_sieve_0 24 rfl rfl
theorem dksX2_sieve_2 : cX2_sieve.data.toList.drop 48 = dktX2_sieve_2 := dk_seg dksX2_sieve_1 24 rfl rfl
theorem dksX2_sieve_3 : cX2_sieve.data.toList.drop 72 = dktX2_sieve_3 := dk_seg dksX2_sieve_2 24 rfl rfl
theorem dX2_sieve_0 : decode cX2_sieve 0 = .ok (.aload_n 0, 1) := dk_42 (dk_at dksX2_sieve_0 0 rfl rfl)
theorem dX2_sieve_1 : decode cX2_sieve 1 = .ok (.aload_n 0, 1) := dk_42 (dk_at dksX2_sieve_0 1 rfl rfl)
theorem dX2_sieve_2 : decode cX2_sieve 2 = .ok (.getfield 109, 3) := dk_180 0 109 (dk_at dksX2_sieve_0 2 rfl rfl)
theorem dX2_sieve_5 : decode cX2_sieve 5 = .ok (.getfield 168, 3) := dk_180 0 168 (dk_at dksX2_sieve_0 5 rfl rfl)
theorem dX2_sieve_8 : decode cX2_sieve 8 = .ok (.iconst (-1), 1) := dk_2 (dk_at dksX2_sieve_0 8 rfl rfl)
theorem dX2_sieve_9 : decode cX2_sieve 9 = .ok (.if_icmp .ne 7, 3) := dk_160 0 7 (dk_at dksX2_sieve_0 9 rfl rfl)
theorem dX2_sieve_12 : decode cX2_sieve 12 = .ok (.iconst 1, 1) := dk_4 (dk_at dksX2_sieve_0 12 rfl rfl)
theorem dX2_sieve_13 : decode cX2_sieve 13 = .ok (.goto 4, 3) := dk_167 0 4 (dk_at dksX2_sieve_0 13 rfl rfl)
theorem dX2_sieve_16 : decode cX2_sieve 16 = .ok (.iconst 0, 1) := dk_3 (dk_at dksX2_sieve_0 16 rfl rfl)
theorem dX2_sieve_17 : decode cX2_sieve 17 = .ok (.invokevirtual 130, 3) := dk_182 0 130 (dk_at dksX2_sieve_0 17 rfl rfl)
theorem dX2_sieve_20 : decode cX2_sieve 20 = .ok (.aload_n 0, 1) := dk_42 (dk_at dksX2_sieve_0 20 rfl rfl)
theorem dX2_sieve_21 : decode cX2_sieve 21 = .ok (.invokevirtual 106, 3) := dk_182 0 106 (dk_at dksX2_sieve_0 21 rfl rfl)
theorem dX2_sieve_24 : decode cX2_sieve 24 = .ok (.aload_n 0, 1) := dk_42 (dk_at dksX2_sieve_1 0 rfl rfl)
theorem dX2_sieve_25 : decode cX2_sieve 25 = .ok (.getfield 109, 3) := dk_180 0 109 (dk_at dksX2_sieve_1 1 rfl rfl)
theorem dX2_sieve_28 : decode cX2_sieve 28 = .ok (.aload_n 0, 1) := dk_42 (dk_at dksX2_sieve_1 4 rfl rfl)
theorem dX2_sieve_29 : decode cX2_sieve 29 = .ok (.getfield 61, 3) := dk_180 0 61 (dk_at dksX2_sieve_1 5 rfl rfl)
theorem dX2_sieve_32 : decode cX2_sieve 32 = .ok (.invokevirtual 170, 3) := dk_182 0 170 (dk_at dksX2_sieve_1 8 rfl rfl)
theorem dX2_sieve_35 : decode cX2_sieve 35 = .ok (.istore_n 1, 1) := dk_60 (dk_at dksX2_sieve_1 11 rfl rfl)
theorem dX2_sieve_36 : decode cX2_sieve 36 = .ok (.iload_n 1, 1) := dk_27 (dk_at dksX2_sieve_1 12 rfl rfl)
theorem dX2_sieve_37 : decode cX2_sieve 37 = .ok (.iconst (-1), 1) := dk_2 (dk_at dksX2_sieve_1 13 rfl rfl)
theorem dX2_sieve_38 : decode cX2_sieve 38 = .ok (.if_icmp .ne 9, 3) := dk_160 0 9 (dk_at dksX2_sieve_1 14 rfl rfl)
theorem dX2_sieve_41 : decode cX2_sieve 41 = .ok (.aload_n 0, 1) := dk_42 (dk_at dksX2_sieve_1 17 rfl rfl)
theorem dX2_sieve_42 : decode cX2_sieve 42 = .ok (.iconst 2, 1) := dk_5 (dk_at dksX2_sieve_1 18 rfl rfl)
theorem dX2_sieve_43 : decode cX2_sieve 43 = .ok (.invokevirtual 85, 3) := dk_182 0 85 (dk_at dksX2_sieve_1 19 rfl rfl)
theorem dX2_sieve_46 : decode cX2_sieve 46 = .ok (.athrow, 1) := dk_191 (dk_at dksX2_sieve_1 22 rfl rfl)
theorem dX2_sieve_47 : decode cX2_sieve 47 = .ok (.aload_n 0, 1) := dk_42 (dk_at dksX2_sieve_1 23 rfl rfl)
theorem dX2_sieve_48 : decode cX2_sieve 48 = .ok (.invokevirtual 79, 3) := dk_182 0 79 (dk_at dksX2_sieve_2 0 rfl rfl)
theorem dX2_sieve_51 : decode cX2_sieve 51 = .ok (.aload_n 0, 1) := dk_42 (dk_at dksX2_sieve_2 3 rfl rfl)
theorem dX2_sieve_52 : decode cX2_sieve 52 = .ok (.ldc 174, 2) := dk_18 174 (dk_at dksX2_sieve_2 4 rfl rfl)
theorem dX2_sieve_54 : decode cX2_sieve 54 = .ok (.invokevirtual 135, 3) := dk_182 0 135 (dk_at dksX2_sieve_2 6 rfl rfl)
theorem dX2_sieve_57 : decode cX2_sieve 57 = .ok (.aload_n 0, 1) := dk_42 (dk_at dksX2_sieve_2 9 rfl rfl)
theorem dX2_sieve_58 : decode cX2_sieve 58 = .ok (.getfield 109, 3) := dk_180 0 109 (dk_at dksX2_sieve_2 10 rfl rfl)
theorem dX2_sieve_61 : decode cX2_sieve 61 = .ok (.aload_n 0, 1) := dk_42 (dk_at dksX2_sieve_2 13 rfl rfl)
theorem dX2_sieve_62 : decode cX2_sieve 62 = .ok (.iconst 0, 1) := dk_3 (dk_at dksX2_sieve_2 14 rfl rfl)
theorem dX2_sieve_63 : decode cX2_sieve 63 = .ok (.bipush 50, 2) := dk_16 50 (dk_at dksX2_sieve_2 15 rfl rfl)
theorem dX2_sieve_65 : decode cX2_sieve 65 = .ok (.invokevirtual 139, 3) := dk_182 0 139 (dk_at dksX2_sieve_2 17 rfl rfl)
theorem dX2_sieve_68 : decode cX2_sieve 68 = .ok (.putfield 176, 3) := dk_181 0 176 (dk_at dksX2_sieve_2 20 rfl rfl)
theorem dX2_sieve_71 : decode cX2_sieve 71 = .ok (.aload_n 0, 1) := dk_42 (dk_at dksX2_sieve_2 23 rfl rfl)
theorem dX2_sieve_72 : decode cX2_sieve 72 = .ok (.getfield 109, 3) := dk_180 0 109 (dk_at dksX2_sieve_3 0 rfl rfl)
theorem dX2_sieve_75 : decode cX2_sieve 75 = .ok (.iload_n 1, 1) := dk_27 (dk_at dksX2_sieve_3 3 rfl rfl)
theorem dX2_sieve_76 : decode cX2_sieve 76 = .ok (.putfield 168, 3) := dk_181 0 168 (dk_at dksX2_sieve_3 4 rfl rfl)
theorem dX2_sieve_79 : decode cX2_sieve 79 = .ok (.return_, 1) := dk_177 (dk_at dksX2_sieve_3 7 rfl rfl)
abbrev cX2_mustName : ByteArray := prog_6_method_10_code
def yX2_mustName : MethodName := ⟨RX2, "mustName", "()V"⟩
def dkwX2_mustName_9 : List UInt8 := [42, 4, 182, 0, 85, 191, 177]
abbrev dktX2_mustName_9 : List UInt8 := dkwX2_mustName_9 ++ []
def dkwX2_mustName_8 : List UInt8 := [170, 0, 0, 0, 0, 0, 49, 0, 0, 0, 0, 0, 0, 0, 6, 0, 0, 0, 43, 0, 0, 0, 43, 0, 0, 0, 43, 0, 0, 0, 43, 0, 0, 0, 43, 0, 0, 0, 43, 0, 0, 0, 43]
abbrev dktX2_mustName_8 : List UInt8 := dkwX2_mustName_8 ++ dktX2_mustName_9
def dkwX2_mustName_7 : List UInt8 := [61, 28]
abbrev dktX2_mustName_7 : List UInt8 := dkwX2_mustName_7 ++ dktX2_mustName_8
def dkwX2_mustName_6 : List UInt8 := [18, 103, 182, 0, 71, 153, 0, 20, 8, 61, 167, 0, 15, 43, 18, 104, 182, 0, 71, 153, 0, 6, 16, 6]
abbrev dktX2_mustName_6 : List UInt8 := dkwX2_mustName_6 ++ dktX2_mustName_7
def dkwX2_mustName_5 : List UInt8 := [153, 0, 48, 6, 61, 167, 0, 43, 43, 18, 101, 182, 0, 71, 153, 0, 34, 7, 61, 167, 0, 29, 43]
abbrev dktX2_mustName_5 : List UInt8 := dkwX2_mustName_5 ++ dktX2_mustName_6
def dkwX2_mustName_4 : List UInt8 := [61, 167, 0, 71, 43, 18, 97, 182, 0, 71, 153, 0, 62, 5, 61, 167, 0, 57, 43, 18, 99, 182, 0, 71]
abbrev dktX2_mustName_4 : List UInt8 := dkwX2_mustName_4 ++ dktX2_mustName_5
def dkwX2_mustName_3 : List UInt8 := [43, 18, 93, 182, 0, 71, 153, 0, 90, 3, 61, 167, 0, 85, 43, 18, 95, 182, 0, 71, 153, 0, 76, 4]
abbrev dktX2_mustName_3 : List UInt8 := dkwX2_mustName_3 ++ dktX2_mustName_4
def dkwX2_mustName_2 : List UInt8 := [171, 0, 0, 0, 0, 0, 163, 0, 0, 0, 7, 0, 1, 125, 7, 0, 0, 0, 109, 0, 1, 174, 226, 0, 0, 0, 151, 0, 47, 47, 166, 0, 0, 0, 67, 0, 53, 224, 1, 0, 0, 0, 137, 6, 35, 78, 254, 0, 0, 0, 95, 6, 95, 177, 73, 0, 0, 0, 123, 6, 133, 211, 190, 0, 0, 0, 81]
abbrev dktX2_mustName_2 : List UInt8 := dkwX2_mustName_2 ++ dktX2_mustName_3
def dkwX2_mustName_1 : List UInt8 := [182, 0, 89]
abbrev dktX2_mustName_1 : List UInt8 := dkwX2_mustName_1 ++ dktX2_mustName_2
def dkwX2_mustName_0 : List UInt8 := [42, 180, 0, 47, 5, 159, 0, 9, 42, 4, 182, 0, 85, 191, 42, 180, 0, 61, 76, 2, 61, 43]
abbrev dktX2_mustName_0 : List UInt8 := dkwX2_mustName_0 ++ dktX2_mustName_1
theorem dksX2_mustName_0 : cX2_mustName.data.toList.drop 0 = dktX2_mustName_0 := by decide +kernel
theorem dksX2_mustName_1 : cX2_mustName.data.toList.drop 22 = dktX2_mustName_1 := dk_seg dksX2_mustName_0 22 rfl rfl
theorem dksX2_mustName_2 : cX2_mustName.data.toList.drop 25 = dktX2_mustName_2 := dk_seg dksX2_mustName_1 3 rfl rfl
theorem dksX2_mustName_3 : cX2_mustName.data.toList.drop 92 = dktX2_mustName_3 := dk_seg dksX2_mustName_2 67 rfl rfl
theorem dksX2_mustName_4 : cX2_mustName.data.toList.drop 116 = dktX2_mustName_4 := dk_seg dksX2_mustName_3 24 rfl rfl
theorem dksX2_mustName_5 : cX2_mustName.data.toList.drop 140 = dktX2_mustName_5 := dk_seg dksX2_mustName_4 24 rfl rfl
theorem dksX2_mustName_6 : cX2_mustName.data.toList.drop 163 = dktX2_mustName_6 := dk_seg dksX2_mustName_5 23 rfl rfl
theorem dksX2_mustName_7 : cX2_mustName.data.toList.drop 187 = dktX2_mustName_7 := dk_seg dksX2_mustName_6 24 rfl rfl
theorem dksX2_mustName_8 : cX2_mustName.data.toList.drop 189 = dktX2_mustName_8 := dk_seg dksX2_mustName_7 2 rfl rfl
theorem dksX2_mustName_9 : cX2_mustName.data.toList.drop 232 = dktX2_mustName_9 := dk_seg dksX2_mustName_8 43 rfl rfl
theorem dX2_mustName_0 : decode cX2_mustName 0 = .ok (.aload_n 0, 1) := dk_42 (dk_at dksX2_mustName_0 0 rfl rfl)
theorem dX2_mustName_1 : decode cX2_mustName 1 = .ok (.getfield 47, 3) := dk_180 0 47 (dk_at dksX2_mustName_0 1 rfl rfl)
theorem dX2_mustName_4 : decode cX2_mustName 4 = .ok (.iconst 2, 1) := dk_5 (dk_at dksX2_mustName_0 4 rfl rfl)
theorem dX2_mustName_5 : decode cX2_mustName 5 = .ok (.if_icmp .eq 9, 3) := dk_159 0 9 (dk_at dksX2_mustName_0 5 rfl rfl)
theorem dX2_mustName_8 : decode cX2_mustName 8 = .ok (.aload_n 0, 1) := dk_42 (dk_at dksX2_mustName_0 8 rfl rfl)
theorem dX2_mustName_9 : decode cX2_mustName 9 = .ok (.iconst 1, 1) := dk_4 (dk_at dksX2_mustName_0 9 rfl rfl)
theorem dX2_mustName_10 : decode cX2_mustName 10 = .ok (.invokevirtual 85, 3) := dk_182 0 85 (dk_at dksX2_mustName_0 10 rfl rfl)
theorem dX2_mustName_13 : decode cX2_mustName 13 = .ok (.athrow, 1) := dk_191 (dk_at dksX2_mustName_0 13 rfl rfl)
theorem dX2_mustName_14 : decode cX2_mustName 14 = .ok (.aload_n 0, 1) := dk_42 (dk_at dksX2_mustName_0 14 rfl rfl)
theorem dX2_mustName_15 : decode cX2_mustName 15 = .ok (.getfield 61, 3) := dk_180 0 61 (dk_at dksX2_mustName_0 15 rfl rfl)
theorem dX2_mustName_18 : decode cX2_mustName 18 = .ok (.astore_n 1, 1) := dk_76 (dk_at dksX2_mustName_0 18 rfl rfl)
theorem dX2_mustName_19 : decode cX2_mustName 19 = .ok (.iconst (-1), 1) := dk_2 (dk_at dksX2_mustName_0 19 rfl rfl)
theorem dX2_mustName_20 : decode cX2_mustName 20 = .ok (.istore_n 2, 1) := dk_61 (dk_at dksX2_mustName_0 20 rfl rfl)
theorem dX2_mustName_21 : decode cX2_mustName 21 = .ok (.aload_n 1, 1) := dk_43 (dk_at dksX2_mustName_0 21 rfl rfl)
theorem dX2_mustName_22 : decode cX2_mustName 22 = .ok (.invokevirtual 89, 3) := dk_182 0 89 (dk_at dksX2_mustName_1 0 rfl rfl)
theorem dX2_mustName_25 : decode cX2_mustName 25 = .ok (.lookupswitch 163 #[(97543, 109), (110306, 151), (3092390, 67), (3530753, 137), (102977278, 95), (106934601, 123), (109433790, 81)], 67) := by decide +kernel
theorem dX2_mustName_92 : decode cX2_mustName 92 = .ok (.aload_n 1, 1) := dk_43 (dk_at dksX2_mustName_3 0 rfl rfl)
theorem dX2_mustName_93 : decode cX2_mustName 93 = .ok (.ldc 93, 2) := dk_18 93 (dk_at dksX2_mustName_3 1 rfl rfl)
theorem dX2_mustName_95 : decode cX2_mustName 95 = .ok (.invokevirtual 71, 3) := dk_182 0 71 (dk_at dksX2_mustName_3 3 rfl rfl)
theorem dX2_mustName_98 : decode cX2_mustName 98 = .ok (.ifCond .eq 90, 3) := dk_153 0 90 (dk_at dksX2_mustName_3 6 rfl rfl)
theorem dX2_mustName_101 : decode cX2_mustName 101 = .ok (.iconst 0, 1) := dk_3 (dk_at dksX2_mustName_3 9 rfl rfl)
theorem dX2_mustName_102 : decode cX2_mustName 102 = .ok (.istore_n 2, 1) := dk_61 (dk_at dksX2_mustName_3 10 rfl rfl)
theorem dX2_mustName_103 : decode cX2_mustName 103 = .ok (.goto 85, 3) := dk_167 0 85 (dk_at dksX2_mustName_3 11 rfl rfl)
theorem dX2_mustName_106 : decode cX2_mustName 106 = .ok (.aload_n 1, 1) := dk_43 (dk_at dksX2_mustName_3 14 rfl rfl)
theorem dX2_mustName_107 : decode cX2_mustName 107 = .ok (.ldc 95, 2) := dk_18 95 (dk_at dksX2_mustName_3 15 rfl rfl)
theorem dX2_mustName_109 : decode cX2_mustName 109 = .ok (.invokevirtual 71, 3) := dk_182 0 71 (dk_at dksX2_mustName_3 17 rfl rfl)
theorem dX2_mustName_112 : decode cX2_mustName 112 = .ok (.ifCond .eq 76, 3) := dk_153 0 76 (dk_at dksX2_mustName_3 20 rfl rfl)
theorem dX2_mustName_115 : decode cX2_mustName 115 = .ok (.iconst 1, 1) := dk_4 (dk_at dksX2_mustName_3 23 rfl rfl)
theorem dX2_mustName_116 : decode cX2_mustName 116 = .ok (.istore_n 2, 1) := dk_61 (dk_at dksX2_mustName_4 0 rfl rfl)
theorem dX2_mustName_117 : decode cX2_mustName 117 = .ok (.goto 71, 3) := dk_167 0 71 (dk_at dksX2_mustName_4 1 rfl rfl)
theorem dX2_mustName_120 : decode cX2_mustName 120 = .ok (.aload_n 1, 1) := dk_43 (dk_at dksX2_mustName_4 4 rfl rfl)
theorem dX2_mustName_121 : decode cX2_mustName 121 = .ok (.ldc 97, 2) := dk_18 97 (dk_at dksX2_mustName_4 5 rfl rfl)
theorem dX2_mustName_123 : decode cX2_mustName 123 = .ok (.invokevirtual 71, 3) := dk_182 0 71 (dk_at dksX2_mustName_4 7 rfl rfl)
theorem dX2_mustName_126 : decode cX2_mustName 126 = .ok (.ifCond .eq 62, 3) := dk_153 0 62 (dk_at dksX2_mustName_4 10 rfl rfl)
theorem dX2_mustName_129 : decode cX2_mustName 129 = .ok (.iconst 2, 1) := dk_5 (dk_at dksX2_mustName_4 13 rfl rfl)
theorem dX2_mustName_130 : decode cX2_mustName 130 = .ok (.istore_n 2, 1) := dk_61 (dk_at dksX2_mustName_4 14 rfl rfl)
theorem dX2_mustName_131 : decode cX2_mustName 131 = .ok (.goto 57, 3) := dk_167 0 57 (dk_at dksX2_mustName_4 15 rfl rfl)
theorem dX2_mustName_134 : decode cX2_mustName 134 = .ok (.aload_n 1, 1) := dk_43 (dk_at dksX2_mustName_4 18 rfl rfl)
theorem dX2_mustName_135 : decode cX2_mustName 135 = .ok (.ldc 99, 2) := dk_18 99 (dk_at dksX2_mustName_4 19 rfl rfl)
theorem dX2_mustName_137 : decode cX2_mustName 137 = .ok (.invokevirtual 71, 3) := dk_182 0 71 (dk_at dksX2_mustName_4 21 rfl rfl)
theorem dX2_mustName_140 : decode cX2_mustName 140 = .ok (.ifCond .eq 48, 3) := dk_153 0 48 (dk_at dksX2_mustName_5 0 rfl rfl)
theorem dX2_mustName_143 : decode cX2_mustName 143 = .ok (.iconst 3, 1) := dk_6 (dk_at dksX2_mustName_5 3 rfl rfl)
theorem dX2_mustName_144 : decode cX2_mustName 144 = .ok (.istore_n 2, 1) := dk_61 (dk_at dksX2_mustName_5 4 rfl rfl)
theorem dX2_mustName_145 : decode cX2_mustName 145 = .ok (.goto 43, 3) := dk_167 0 43 (dk_at dksX2_mustName_5 5 rfl rfl)
theorem dX2_mustName_148 : decode cX2_mustName 148 = .ok (.aload_n 1, 1) := dk_43 (dk_at dksX2_mustName_5 8 rfl rfl)
theorem dX2_mustName_149 : decode cX2_mustName 149 = .ok (.ldc 101, 2) := dk_18 101 (dk_at dksX2_mustName_5 9 rfl rfl)
theorem dX2_mustName_151 : decode cX2_mustName 151 = .ok (.invokevirtual 71, 3) := dk_182 0 71 (dk_at dksX2_mustName_5 11 rfl rfl)
theorem dX2_mustName_154 : decode cX2_mustName 154 = .ok (.ifCond .eq 34, 3) := dk_153 0 34 (dk_at dksX2_mustName_5 14 rfl rfl)
theorem dX2_mustName_157 : decode cX2_mustName 157 = .ok (.iconst 4, 1) := dk_7 (dk_at dksX2_mustName_5 17 rfl rfl)
theorem dX2_mustName_158 : decode cX2_mustName 158 = .ok (.istore_n 2, 1) := dk_61 (dk_at dksX2_mustName_5 18 rfl rfl)
theorem dX2_mustName_159 : decode cX2_mustName 159 = .ok (.goto 29, 3) := dk_167 0 29 (dk_at dksX2_mustName_5 19 rfl rfl)
theorem dX2_mustName_162 : decode cX2_mustName 162 = .ok (.aload_n 1, 1) := dk_43 (dk_at dksX2_mustName_5 22 rfl rfl)
theorem dX2_mustName_163 : decode cX2_mustName 163 = .ok (.ldc 103, 2) := dk_18 103 (dk_at dksX2_mustName_6 0 rfl rfl)
theorem dX2_mustName_165 : decode cX2_mustName 165 = .ok (.invokevirtual 71, 3) := dk_182 0 71 (dk_at dksX2_mustName_6 2 rfl rfl)
theorem dX2_mustName_168 : decode cX2_mustName 168 = .ok (.ifCond .eq 20, 3) := dk_153 0 20 (dk_at dksX2_mustName_6 5 rfl rfl)
theorem dX2_mustName_171 : decode cX2_mustName 171 = .ok (.iconst 5, 1) := dk_8 (dk_at dksX2_mustName_6 8 rfl rfl)
theorem dX2_mustName_172 : decode cX2_mustName 172 = .ok (.istore_n 2, 1) := dk_61 (dk_at dksX2_mustName_6 9 rfl rfl)
theorem dX2_mustName_173 : decode cX2_mustName 173 = .ok (.goto 15, 3) := dk_167 0 15 (dk_at dksX2_mustName_6 10 rfl rfl)
theorem dX2_mustName_176 : decode cX2_mustName 176 = .ok (.aload_n 1, 1) := dk_43 (dk_at dksX2_mustName_6 13 rfl rfl)
theorem dX2_mustName_177 : decode cX2_mustName 177 = .ok (.ldc 104, 2) := dk_18 104 (dk_at dksX2_mustName_6 14 rfl rfl)
theorem dX2_mustName_179 : decode cX2_mustName 179 = .ok (.invokevirtual 71, 3) := dk_182 0 71 (dk_at dksX2_mustName_6 16 rfl rfl)
theorem dX2_mustName_182 : decode cX2_mustName 182 = .ok (.ifCond .eq 6, 3) := dk_153 0 6 (dk_at dksX2_mustName_6 19 rfl rfl)
theorem dX2_mustName_185 : decode cX2_mustName 185 = .ok (.bipush 6, 2) := dk_16 6 (dk_at dksX2_mustName_6 22 rfl rfl)
theorem dX2_mustName_187 : decode cX2_mustName 187 = .ok (.istore_n 2, 1) := dk_61 (dk_at dksX2_mustName_7 0 rfl rfl)
theorem dX2_mustName_188 : decode cX2_mustName 188 = .ok (.iload_n 2, 1) := dk_28 (dk_at dksX2_mustName_7 1 rfl rfl)
theorem dX2_mustName_189 : decode cX2_mustName 189 = .ok (.tableswitch 49 0 6 #[43, 43, 43, 43, 43, 43, 43], 43) := by decide +kernel
theorem dX2_mustName_232 : decode cX2_mustName 232 = .ok (.aload_n 0, 1) := dk_42 (dk_at dksX2_mustName_9 0 rfl rfl)
theorem dX2_mustName_233 : decode cX2_mustName 233 = .ok (.iconst 1, 1) := dk_4 (dk_at dksX2_mustName_9 1 rfl rfl)
theorem dX2_mustName_234 : decode cX2_mustName 234 = .ok (.invokevirtual 85, 3) := dk_182 0 85 (dk_at dksX2_mustName_9 2 rfl rfl)
theorem dX2_mustName_237 : decode cX2_mustName 237 = .ok (.athrow, 1) := dk_191 (dk_at dksX2_mustName_9 5 rfl rfl)
theorem dX2_mustName_238 : decode cX2_mustName 238 = .ok (.return_, 1) := dk_177 (dk_at dksX2_mustName_9 6 rfl rfl)
abbrev cX2_prices : ByteArray := prog_6_method_17_code
def yX2_prices : MethodName := ⟨RX2, "prices", "()V"⟩
def dkwX2_prices_3 : List UInt8 := [182, 0, 79, 167, 255, 185, 177]
abbrev dktX2_prices_3 : List UInt8 := dkwX2_prices_3 ++ []
def dkwX2_prices_2 : List UInt8 := [181, 0, 158, 42, 180, 0, 47, 16, 44, 160, 0, 7, 4, 167, 0, 4, 3, 60, 27, 153, 255, 192, 42]
abbrev dktX2_prices_2 : List UInt8 := dkwX2_prices_2 ++ dktX2_prices_3
def dkwX2_prices_1 : List UInt8 := [42, 180, 0, 109, 180, 0, 158, 16, 6, 182, 0, 181, 79, 42, 180, 0, 109, 89, 180, 0, 158, 4, 96]
abbrev dktX2_prices_1 : List UInt8 := dkwX2_prices_1 ++ dktX2_prices_2
def dkwX2_prices_0 : List UInt8 := [4, 60, 27, 153, 0, 73, 42, 180, 0, 109, 180, 0, 178, 42, 180, 0, 109, 180, 0, 158, 42, 3, 16, 99]
abbrev dktX2_prices_0 : List UInt8 := dkwX2_prices_0 ++ dktX2_prices_1
theorem dksX2_prices_0 : cX2_prices.data.toList.drop 0 = dktX2_prices_0 := by decide +kernel
theorem dksX2_prices_1 : cX2_prices.data.toList.drop 24 = dktX2_prices_1 := dk_seg dksX2_prices_0 24 rfl rfl
theorem dksX2_prices_2 : cX2_prices.data.toList.drop 47 = dktX2_prices_2 := dk_seg dksX2_prices_1 23 rfl rfl
theorem dksX2_prices_3 : cX2_prices.data.toList.drop 70 = dktX2_prices_3 := dk_seg dksX2_prices_2 23 rfl rfl
theorem dX2_prices_0 : decode cX2_prices 0 = .ok (.iconst 1, 1) := dk_4 (dk_at dksX2_prices_0 0 rfl rfl)
theorem dX2_prices_1 : decode cX2_prices 1 = .ok (.istore_n 1, 1) := dk_60 (dk_at dksX2_prices_0 1 rfl rfl)
theorem dX2_prices_2 : decode cX2_prices 2 = .ok (.iload_n 1, 1) := dk_27 (dk_at dksX2_prices_0 2 rfl rfl)
theorem dX2_prices_3 : decode cX2_prices 3 = .ok (.ifCond .eq 73, 3) := dk_153 0 73 (dk_at dksX2_prices_0 3 rfl rfl)
theorem dX2_prices_6 : decode cX2_prices 6 = .ok (.aload_n 0, 1) := dk_42 (dk_at dksX2_prices_0 6 rfl rfl)
theorem dX2_prices_7 : decode cX2_prices 7 = .ok (.getfield 109, 3) := dk_180 0 109 (dk_at dksX2_prices_0 7 rfl rfl)
theorem dX2_prices_10 : decode cX2_prices 10 = .ok (.getfield 178, 3) := dk_180 0 178 (dk_at dksX2_prices_0 10 rfl rfl)
theorem dX2_prices_13 : decode cX2_prices 13 = .ok (.aload_n 0, 1) := dk_42 (dk_at dksX2_prices_0 13 rfl rfl)
theorem dX2_prices_14 : decode cX2_prices 14 = .ok (.getfield 109, 3) := dk_180 0 109 (dk_at dksX2_prices_0 14 rfl rfl)
theorem dX2_prices_17 : decode cX2_prices 17 = .ok (.getfield 158, 3) := dk_180 0 158 (dk_at dksX2_prices_0 17 rfl rfl)
theorem dX2_prices_20 : decode cX2_prices 20 = .ok (.aload_n 0, 1) := dk_42 (dk_at dksX2_prices_0 20 rfl rfl)
theorem dX2_prices_21 : decode cX2_prices 21 = .ok (.iconst 0, 1) := dk_3 (dk_at dksX2_prices_0 21 rfl rfl)
theorem dX2_prices_22 : decode cX2_prices 22 = .ok (.bipush 99, 2) := dk_16 99 (dk_at dksX2_prices_0 22 rfl rfl)
theorem dX2_prices_24 : decode cX2_prices 24 = .ok (.aload_n 0, 1) := dk_42 (dk_at dksX2_prices_1 0 rfl rfl)
theorem dX2_prices_25 : decode cX2_prices 25 = .ok (.getfield 109, 3) := dk_180 0 109 (dk_at dksX2_prices_1 1 rfl rfl)
theorem dX2_prices_28 : decode cX2_prices 28 = .ok (.getfield 158, 3) := dk_180 0 158 (dk_at dksX2_prices_1 4 rfl rfl)
theorem dX2_prices_31 : decode cX2_prices 31 = .ok (.bipush 6, 2) := dk_16 6 (dk_at dksX2_prices_1 7 rfl rfl)
theorem dX2_prices_33 : decode cX2_prices 33 = .ok (.invokevirtual 181, 3) := dk_182 0 181 (dk_at dksX2_prices_1 9 rfl rfl)
theorem dX2_prices_36 : decode cX2_prices 36 = .ok (.iastore, 1) := dk_79 (dk_at dksX2_prices_1 12 rfl rfl)
theorem dX2_prices_37 : decode cX2_prices 37 = .ok (.aload_n 0, 1) := dk_42 (dk_at dksX2_prices_1 13 rfl rfl)
theorem dX2_prices_38 : decode cX2_prices 38 = .ok (.getfield 109, 3) := dk_180 0 109 (dk_at dksX2_prices_1 14 rfl rfl)
theorem dX2_prices_41 : decode cX2_prices 41 = .ok (.dup, 1) := dk_89 (dk_at dksX2_prices_1 17 rfl rfl)
theorem dX2_prices_42 : decode cX2_prices 42 = .ok (.getfield 158, 3) := dk_180 0 158 (dk_at dksX2_prices_1 18 rfl rfl)
theorem dX2_prices_45 : decode cX2_prices 45 = .ok (.iconst 1, 1) := dk_4 (dk_at dksX2_prices_1 21 rfl rfl)
theorem dX2_prices_46 : decode cX2_prices 46 = .ok (.iadd, 1) := dk_96 (dk_at dksX2_prices_1 22 rfl rfl)
theorem dX2_prices_47 : decode cX2_prices 47 = .ok (.putfield 158, 3) := dk_181 0 158 (dk_at dksX2_prices_2 0 rfl rfl)
theorem dX2_prices_50 : decode cX2_prices 50 = .ok (.aload_n 0, 1) := dk_42 (dk_at dksX2_prices_2 3 rfl rfl)
theorem dX2_prices_51 : decode cX2_prices 51 = .ok (.getfield 47, 3) := dk_180 0 47 (dk_at dksX2_prices_2 4 rfl rfl)
theorem dX2_prices_54 : decode cX2_prices 54 = .ok (.bipush 44, 2) := dk_16 44 (dk_at dksX2_prices_2 7 rfl rfl)
theorem dX2_prices_56 : decode cX2_prices 56 = .ok (.if_icmp .ne 7, 3) := dk_160 0 7 (dk_at dksX2_prices_2 9 rfl rfl)
theorem dX2_prices_59 : decode cX2_prices 59 = .ok (.iconst 1, 1) := dk_4 (dk_at dksX2_prices_2 12 rfl rfl)
theorem dX2_prices_60 : decode cX2_prices 60 = .ok (.goto 4, 3) := dk_167 0 4 (dk_at dksX2_prices_2 13 rfl rfl)
theorem dX2_prices_63 : decode cX2_prices 63 = .ok (.iconst 0, 1) := dk_3 (dk_at dksX2_prices_2 16 rfl rfl)
theorem dX2_prices_64 : decode cX2_prices 64 = .ok (.istore_n 1, 1) := dk_60 (dk_at dksX2_prices_2 17 rfl rfl)
theorem dX2_prices_65 : decode cX2_prices 65 = .ok (.iload_n 1, 1) := dk_27 (dk_at dksX2_prices_2 18 rfl rfl)
theorem dX2_prices_66 : decode cX2_prices 66 = .ok (.ifCond .eq (-64), 3) := dk_153 255 192 (dk_at dksX2_prices_2 19 rfl rfl)
theorem dX2_prices_69 : decode cX2_prices 69 = .ok (.aload_n 0, 1) := dk_42 (dk_at dksX2_prices_2 22 rfl rfl)
theorem dX2_prices_70 : decode cX2_prices 70 = .ok (.invokevirtual 79, 3) := dk_182 0 79 (dk_at dksX2_prices_3 0 rfl rfl)
theorem dX2_prices_73 : decode cX2_prices 73 = .ok (.goto (-71), 3) := dk_167 255 185 (dk_at dksX2_prices_3 3 rfl rfl)
theorem dX2_prices_76 : decode cX2_prices 76 = .ok (.return_, 1) := dk_177 (dk_at dksX2_prices_3 6 rfl rfl)
abbrev cX2_last : ByteArray := prog_6_method_18_code
def yX2_last : MethodName := ⟨RX2, "last", "(IIII)I"⟩
def dkwX2_last_2 : List UInt8 := [182, 0, 139, 172]
abbrev dktX2_last_2 : List UInt8 := dkwX2_last_2 ++ []
def dkwX2_last_1 : List UInt8 := [154, 0, 9, 42, 7, 182, 0, 85, 191, 29, 21, 4, 161, 0, 9, 42, 8, 182, 0, 85, 191, 42, 27, 28]
abbrev dktX2_last_1 : List UInt8 := dkwX2_last_1 ++ dktX2_last_2
def dkwX2_last_0 : List UInt8 := [42, 180, 0, 47, 6, 159, 0, 9, 42, 4, 182, 0, 85, 191, 42, 180, 0, 68, 27, 28, 184, 0, 36]
abbrev dktX2_last_0 : List UInt8 := dkwX2_last_0 ++ dktX2_last_1
theorem dksX2_last_0 : cX2_last.data.toList.drop 0 = dktX2_last_0 := by decide +kernel
theorem dksX2_last_1 : cX2_last.data.toList.drop 23 = dktX2_last_1 := dk_seg dksX2_last_0 23 rfl rfl
theorem dksX2_last_2 : cX2_last.data.toList.drop 47 = dktX2_last_2 := dk_seg dksX2_last_1 24 rfl rfl
theorem dX2_last_0 : decode cX2_last 0 = .ok (.aload_n 0, 1) := dk_42 (dk_at dksX2_last_0 0 rfl rfl)
theorem dX2_last_1 : decode cX2_last 1 = .ok (.getfield 47, 3) := dk_180 0 47 (dk_at dksX2_last_0 1 rfl rfl)
theorem dX2_last_4 : decode cX2_last 4 = .ok (.iconst 3, 1) := dk_6 (dk_at dksX2_last_0 4 rfl rfl)
theorem dX2_last_5 : decode cX2_last 5 = .ok (.if_icmp .eq 9, 3) := dk_159 0 9 (dk_at dksX2_last_0 5 rfl rfl)
theorem dX2_last_8 : decode cX2_last 8 = .ok (.aload_n 0, 1) := dk_42 (dk_at dksX2_last_0 8 rfl rfl)
theorem dX2_last_9 : decode cX2_last 9 = .ok (.iconst 1, 1) := dk_4 (dk_at dksX2_last_0 9 rfl rfl)
theorem dX2_last_10 : decode cX2_last 10 = .ok (.invokevirtual 85, 3) := dk_182 0 85 (dk_at dksX2_last_0 10 rfl rfl)
theorem dX2_last_13 : decode cX2_last 13 = .ok (.athrow, 1) := dk_191 (dk_at dksX2_last_0 13 rfl rfl)
theorem dX2_last_14 : decode cX2_last 14 = .ok (.aload_n 0, 1) := dk_42 (dk_at dksX2_last_0 14 rfl rfl)
theorem dX2_last_15 : decode cX2_last 15 = .ok (.getfield 68, 3) := dk_180 0 68 (dk_at dksX2_last_0 15 rfl rfl)
theorem dX2_last_18 : decode cX2_last 18 = .ok (.iload_n 1, 1) := dk_27 (dk_at dksX2_last_0 18 rfl rfl)
theorem dX2_last_19 : decode cX2_last 19 = .ok (.iload_n 2, 1) := dk_28 (dk_at dksX2_last_0 19 rfl rfl)
theorem dX2_last_20 : decode cX2_last 20 = .ok (.invokestatic 36, 3) := dk_184 0 36 (dk_at dksX2_last_0 20 rfl rfl)
theorem dX2_last_23 : decode cX2_last 23 = .ok (.ifCond .ne 9, 3) := dk_154 0 9 (dk_at dksX2_last_1 0 rfl rfl)
theorem dX2_last_26 : decode cX2_last 26 = .ok (.aload_n 0, 1) := dk_42 (dk_at dksX2_last_1 3 rfl rfl)
theorem dX2_last_27 : decode cX2_last 27 = .ok (.iconst 4, 1) := dk_7 (dk_at dksX2_last_1 4 rfl rfl)
theorem dX2_last_28 : decode cX2_last 28 = .ok (.invokevirtual 85, 3) := dk_182 0 85 (dk_at dksX2_last_1 5 rfl rfl)
theorem dX2_last_31 : decode cX2_last 31 = .ok (.athrow, 1) := dk_191 (dk_at dksX2_last_1 8 rfl rfl)
theorem dX2_last_32 : decode cX2_last 32 = .ok (.iload_n 3, 1) := dk_29 (dk_at dksX2_last_1 9 rfl rfl)
theorem dX2_last_33 : decode cX2_last 33 = .ok (.iload 4, 2) := dk_21 4 (dk_at dksX2_last_1 10 rfl rfl)
theorem dX2_last_35 : decode cX2_last 35 = .ok (.if_icmp .lt 9, 3) := dk_161 0 9 (dk_at dksX2_last_1 12 rfl rfl)
theorem dX2_last_38 : decode cX2_last 38 = .ok (.aload_n 0, 1) := dk_42 (dk_at dksX2_last_1 15 rfl rfl)
theorem dX2_last_39 : decode cX2_last 39 = .ok (.iconst 5, 1) := dk_8 (dk_at dksX2_last_1 16 rfl rfl)
theorem dX2_last_40 : decode cX2_last 40 = .ok (.invokevirtual 85, 3) := dk_182 0 85 (dk_at dksX2_last_1 17 rfl rfl)
theorem dX2_last_43 : decode cX2_last 43 = .ok (.athrow, 1) := dk_191 (dk_at dksX2_last_1 20 rfl rfl)
theorem dX2_last_44 : decode cX2_last 44 = .ok (.aload_n 0, 1) := dk_42 (dk_at dksX2_last_1 21 rfl rfl)
theorem dX2_last_45 : decode cX2_last 45 = .ok (.iload_n 1, 1) := dk_27 (dk_at dksX2_last_1 22 rfl rfl)
theorem dX2_last_46 : decode cX2_last 46 = .ok (.iload_n 2, 1) := dk_28 (dk_at dksX2_last_1 23 rfl rfl)
theorem dX2_last_47 : decode cX2_last 47 = .ok (.invokevirtual 139, 3) := dk_182 0 139 (dk_at dksX2_last_2 0 rfl rfl)
theorem dX2_last_50 : decode cX2_last 50 = .ok (.ireturn, 1) := dk_172 (dk_at dksX2_last_2 3 rfl rfl)
abbrev cX2_size : ByteArray := prog_6_method_19_code
def yX2_size : MethodName := ⟨RX2, "size", "()V"⟩
def dkwX2_size_4 : List UInt8 := [180, 0, 185, 4, 96, 181, 0, 185, 177]
abbrev dktX2_size_4 : List UInt8 := dkwX2_size_4 ++ []
def dkwX2_size_3 : List UInt8 := [180, 0, 109, 180, 0, 185, 187, 0, 199, 89, 43, 28, 29, 183, 0, 201, 83, 42, 180, 0, 109, 89]
abbrev dktX2_size_3 : List UInt8 := dkwX2_size_3 ++ dktX2_size_4
def dkwX2_size_2 : List UInt8 := [61, 42, 18, 194, 182, 0, 135, 42, 3, 16, 100, 182, 0, 139, 62, 42, 180, 0, 109, 180, 0, 195, 42]
abbrev dktX2_size_2 : List UInt8 := dkwX2_size_2 ++ dktX2_size_3
def dkwX2_size_1 : List UInt8 := [182, 0, 188, 76, 3, 61, 3, 62, 42, 18, 192, 182, 0, 82, 153, 0, 25, 42, 3, 16, 100, 182, 0, 139]
abbrev dktX2_size_1 : List UInt8 := dkwX2_size_1 ++ dktX2_size_2
def dkwX2_size_0 : List UInt8 := [42, 180, 0, 109, 180, 0, 185, 8, 160, 0, 9, 42, 8, 182, 0, 85, 191, 42, 182, 0, 79, 42]
abbrev dktX2_size_0 : List UInt8 := dkwX2_size_0 ++ dktX2_size_1
theorem dksX2_size_0 : cX2_size.data.toList.drop 0 = dktX2_size_0 := by decide +kernel
theorem dksX2_size_1 : cX2_size.data.toList.drop 22 = dktX2_size_1 := dk_seg dksX2_size_0 22 rfl rfl
theorem dksX2_size_2 : cX2_size.data.toList.drop 46 = dktX2_size_2 := dk_seg dksX2_size_1 24 rfl rfl
theorem dksX2_size_3 : cX2_size.data.toList.drop 69 = dktX2_size_3 := dk_seg dksX2_size_2 23 rfl rfl
theorem dksX2_size_4 : cX2_size.data.toList.drop 91 = dktX2_size_4 := dk_seg dksX2_size_3 22 rfl rfl
theorem dX2_size_0 : decode cX2_size 0 = .ok (.aload_n 0, 1) := dk_42 (dk_at dksX2_size_0 0 rfl rfl)
theorem dX2_size_1 : decode cX2_size 1 = .ok (.getfield 109, 3) := dk_180 0 109 (dk_at dksX2_size_0 1 rfl rfl)
theorem dX2_size_4 : decode cX2_size 4 = .ok (.getfield 185, 3) := dk_180 0 185 (dk_at dksX2_size_0 4 rfl rfl)
theorem dX2_size_7 : decode cX2_size 7 = .ok (.iconst 5, 1) := dk_8 (dk_at dksX2_size_0 7 rfl rfl)
theorem dX2_size_8 : decode cX2_size 8 = .ok (.if_icmp .ne 9, 3) := dk_160 0 9 (dk_at dksX2_size_0 8 rfl rfl)
theorem dX2_size_11 : decode cX2_size 11 = .ok (.aload_n 0, 1) := dk_42 (dk_at dksX2_size_0 11 rfl rfl)
theorem dX2_size_12 : decode cX2_size 12 = .ok (.iconst 5, 1) := dk_8 (dk_at dksX2_size_0 12 rfl rfl)
theorem dX2_size_13 : decode cX2_size 13 = .ok (.invokevirtual 85, 3) := dk_182 0 85 (dk_at dksX2_size_0 13 rfl rfl)
theorem dX2_size_16 : decode cX2_size 16 = .ok (.athrow, 1) := dk_191 (dk_at dksX2_size_0 16 rfl rfl)
theorem dX2_size_17 : decode cX2_size 17 = .ok (.aload_n 0, 1) := dk_42 (dk_at dksX2_size_0 17 rfl rfl)
theorem dX2_size_18 : decode cX2_size 18 = .ok (.invokevirtual 79, 3) := dk_182 0 79 (dk_at dksX2_size_0 18 rfl rfl)
theorem dX2_size_21 : decode cX2_size 21 = .ok (.aload_n 0, 1) := dk_42 (dk_at dksX2_size_0 21 rfl rfl)
theorem dX2_size_22 : decode cX2_size 22 = .ok (.invokevirtual 188, 3) := dk_182 0 188 (dk_at dksX2_size_1 0 rfl rfl)
theorem dX2_size_25 : decode cX2_size 25 = .ok (.astore_n 1, 1) := dk_76 (dk_at dksX2_size_1 3 rfl rfl)
theorem dX2_size_26 : decode cX2_size 26 = .ok (.iconst 0, 1) := dk_3 (dk_at dksX2_size_1 4 rfl rfl)
theorem dX2_size_27 : decode cX2_size 27 = .ok (.istore_n 2, 1) := dk_61 (dk_at dksX2_size_1 5 rfl rfl)
theorem dX2_size_28 : decode cX2_size 28 = .ok (.iconst 0, 1) := dk_3 (dk_at dksX2_size_1 6 rfl rfl)
theorem dX2_size_29 : decode cX2_size 29 = .ok (.istore_n 3, 1) := dk_62 (dk_at dksX2_size_1 7 rfl rfl)
theorem dX2_size_30 : decode cX2_size 30 = .ok (.aload_n 0, 1) := dk_42 (dk_at dksX2_size_1 8 rfl rfl)
theorem dX2_size_31 : decode cX2_size 31 = .ok (.ldc 192, 2) := dk_18 192 (dk_at dksX2_size_1 9 rfl rfl)
theorem dX2_size_33 : decode cX2_size 33 = .ok (.invokevirtual 82, 3) := dk_182 0 82 (dk_at dksX2_size_1 11 rfl rfl)
theorem dX2_size_36 : decode cX2_size 36 = .ok (.ifCond .eq 25, 3) := dk_153 0 25 (dk_at dksX2_size_1 14 rfl rfl)
theorem dX2_size_39 : decode cX2_size 39 = .ok (.aload_n 0, 1) := dk_42 (dk_at dksX2_size_1 17 rfl rfl)
theorem dX2_size_40 : decode cX2_size 40 = .ok (.iconst 0, 1) := dk_3 (dk_at dksX2_size_1 18 rfl rfl)
theorem dX2_size_41 : decode cX2_size 41 = .ok (.bipush 100, 2) := dk_16 100 (dk_at dksX2_size_1 19 rfl rfl)
theorem dX2_size_43 : decode cX2_size 43 = .ok (.invokevirtual 139, 3) := dk_182 0 139 (dk_at dksX2_size_1 21 rfl rfl)
theorem dX2_size_46 : decode cX2_size 46 = .ok (.istore_n 2, 1) := dk_61 (dk_at dksX2_size_2 0 rfl rfl)
theorem dX2_size_47 : decode cX2_size 47 = .ok (.aload_n 0, 1) := dk_42 (dk_at dksX2_size_2 1 rfl rfl)
theorem dX2_size_48 : decode cX2_size 48 = .ok (.ldc 194, 2) := dk_18 194 (dk_at dksX2_size_2 2 rfl rfl)
theorem dX2_size_50 : decode cX2_size 50 = .ok (.invokevirtual 135, 3) := dk_182 0 135 (dk_at dksX2_size_2 4 rfl rfl)
theorem dX2_size_53 : decode cX2_size 53 = .ok (.aload_n 0, 1) := dk_42 (dk_at dksX2_size_2 7 rfl rfl)
theorem dX2_size_54 : decode cX2_size 54 = .ok (.iconst 0, 1) := dk_3 (dk_at dksX2_size_2 8 rfl rfl)
theorem dX2_size_55 : decode cX2_size 55 = .ok (.bipush 100, 2) := dk_16 100 (dk_at dksX2_size_2 9 rfl rfl)
theorem dX2_size_57 : decode cX2_size 57 = .ok (.invokevirtual 139, 3) := dk_182 0 139 (dk_at dksX2_size_2 11 rfl rfl)
theorem dX2_size_60 : decode cX2_size 60 = .ok (.istore_n 3, 1) := dk_62 (dk_at dksX2_size_2 14 rfl rfl)
theorem dX2_size_61 : decode cX2_size 61 = .ok (.aload_n 0, 1) := dk_42 (dk_at dksX2_size_2 15 rfl rfl)
theorem dX2_size_62 : decode cX2_size 62 = .ok (.getfield 109, 3) := dk_180 0 109 (dk_at dksX2_size_2 16 rfl rfl)
theorem dX2_size_65 : decode cX2_size 65 = .ok (.getfield 195, 3) := dk_180 0 195 (dk_at dksX2_size_2 19 rfl rfl)
theorem dX2_size_68 : decode cX2_size 68 = .ok (.aload_n 0, 1) := dk_42 (dk_at dksX2_size_2 22 rfl rfl)
theorem dX2_size_69 : decode cX2_size 69 = .ok (.getfield 109, 3) := dk_180 0 109 (dk_at dksX2_size_3 0 rfl rfl)
theorem dX2_size_72 : decode cX2_size 72 = .ok (.getfield 185, 3) := dk_180 0 185 (dk_at dksX2_size_3 3 rfl rfl)
theorem dX2_size_75 : decode cX2_size 75 = .ok (.new 199, 3) := dk_187 0 199 (dk_at dksX2_size_3 6 rfl rfl)
theorem dX2_size_78 : decode cX2_size 78 = .ok (.dup, 1) := dk_89 (dk_at dksX2_size_3 9 rfl rfl)
theorem dX2_size_79 : decode cX2_size 79 = .ok (.aload_n 1, 1) := dk_43 (dk_at dksX2_size_3 10 rfl rfl)
theorem dX2_size_80 : decode cX2_size 80 = .ok (.iload_n 2, 1) := dk_28 (dk_at dksX2_size_3 11 rfl rfl)
theorem dX2_size_81 : decode cX2_size 81 = .ok (.iload_n 3, 1) := dk_29 (dk_at dksX2_size_3 12 rfl rfl)
theorem dX2_size_82 : decode cX2_size 82 = .ok (.invokespecial 201, 3) := dk_183 0 201 (dk_at dksX2_size_3 13 rfl rfl)
theorem dX2_size_85 : decode cX2_size 85 = .ok (.aastore, 1) := dk_83 (dk_at dksX2_size_3 16 rfl rfl)
theorem dX2_size_86 : decode cX2_size 86 = .ok (.aload_n 0, 1) := dk_42 (dk_at dksX2_size_3 17 rfl rfl)
theorem dX2_size_87 : decode cX2_size 87 = .ok (.getfield 109, 3) := dk_180 0 109 (dk_at dksX2_size_3 18 rfl rfl)
theorem dX2_size_90 : decode cX2_size 90 = .ok (.dup, 1) := dk_89 (dk_at dksX2_size_3 21 rfl rfl)
theorem dX2_size_91 : decode cX2_size 91 = .ok (.getfield 185, 3) := dk_180 0 185 (dk_at dksX2_size_4 0 rfl rfl)
theorem dX2_size_94 : decode cX2_size 94 = .ok (.iconst 1, 1) := dk_4 (dk_at dksX2_size_4 3 rfl rfl)
theorem dX2_size_95 : decode cX2_size 95 = .ok (.iadd, 1) := dk_96 (dk_at dksX2_size_4 4 rfl rfl)
theorem dX2_size_96 : decode cX2_size 96 = .ok (.putfield 185, 3) := dk_181 0 185 (dk_at dksX2_size_4 5 rfl rfl)
theorem dX2_size_99 : decode cX2_size 99 = .ok (.return_, 1) := dk_177 (dk_at dksX2_size_4 8 rfl rfl)
abbrev cX2_newName : ByteArray := prog_6_method_11_code
def yX2_newName : MethodName := ⟨RX2, "newName", "()Ljava/lang/String;"⟩
def dkwX2_newName_1 : List UInt8 := [42, 180, 0, 61, 76, 42, 182, 0, 79, 43, 176]
abbrev dktX2_newName_1 : List UInt8 := dkwX2_newName_1 ++ []
def dkwX2_newName_0 : List UInt8 := [42, 182, 0, 106, 42, 180, 0, 109, 42, 180, 0, 61, 182, 0, 113, 198, 0, 9, 42, 6, 182, 0, 85, 191]
abbrev dktX2_newName_0 : List UInt8 := dkwX2_newName_0 ++ dktX2_newName_1
theorem dksX2_newName_0 : cX2_newName.data.toList.drop 0 = dktX2_newName_0 := by decide +kernel
theorem dksX2_newName_1 : cX2_newName.data.toList.drop 24 = dktX2_newName_1 := dk_seg dksX2_newName_0 24 rfl rfl
theorem dX2_newName_0 : decode cX2_newName 0 = .ok (.aload_n 0, 1) := dk_42 (dk_at dksX2_newName_0 0 rfl rfl)
theorem dX2_newName_1 : decode cX2_newName 1 = .ok (.invokevirtual 106, 3) := dk_182 0 106 (dk_at dksX2_newName_0 1 rfl rfl)
theorem dX2_newName_4 : decode cX2_newName 4 = .ok (.aload_n 0, 1) := dk_42 (dk_at dksX2_newName_0 4 rfl rfl)
theorem dX2_newName_5 : decode cX2_newName 5 = .ok (.getfield 109, 3) := dk_180 0 109 (dk_at dksX2_newName_0 5 rfl rfl)
theorem dX2_newName_8 : decode cX2_newName 8 = .ok (.aload_n 0, 1) := dk_42 (dk_at dksX2_newName_0 8 rfl rfl)
theorem dX2_newName_9 : decode cX2_newName 9 = .ok (.getfield 61, 3) := dk_180 0 61 (dk_at dksX2_newName_0 9 rfl rfl)
theorem dX2_newName_12 : decode cX2_newName 12 = .ok (.invokevirtual 113, 3) := dk_182 0 113 (dk_at dksX2_newName_0 12 rfl rfl)
theorem dX2_newName_15 : decode cX2_newName 15 = .ok (.ifnull 9, 3) := dk_198 0 9 (dk_at dksX2_newName_0 15 rfl rfl)
theorem dX2_newName_18 : decode cX2_newName 18 = .ok (.aload_n 0, 1) := dk_42 (dk_at dksX2_newName_0 18 rfl rfl)
theorem dX2_newName_19 : decode cX2_newName 19 = .ok (.iconst 3, 1) := dk_6 (dk_at dksX2_newName_0 19 rfl rfl)
theorem dX2_newName_20 : decode cX2_newName 20 = .ok (.invokevirtual 85, 3) := dk_182 0 85 (dk_at dksX2_newName_0 20 rfl rfl)
theorem dX2_newName_23 : decode cX2_newName 23 = .ok (.athrow, 1) := dk_191 (dk_at dksX2_newName_0 23 rfl rfl)
theorem dX2_newName_24 : decode cX2_newName 24 = .ok (.aload_n 0, 1) := dk_42 (dk_at dksX2_newName_1 0 rfl rfl)
theorem dX2_newName_25 : decode cX2_newName 25 = .ok (.getfield 61, 3) := dk_180 0 61 (dk_at dksX2_newName_1 1 rfl rfl)
theorem dX2_newName_28 : decode cX2_newName 28 = .ok (.astore_n 1, 1) := dk_76 (dk_at dksX2_newName_1 4 rfl rfl)
theorem dX2_newName_29 : decode cX2_newName 29 = .ok (.aload_n 0, 1) := dk_42 (dk_at dksX2_newName_1 5 rfl rfl)
theorem dX2_newName_30 : decode cX2_newName 30 = .ok (.invokevirtual 79, 3) := dk_182 0 79 (dk_at dksX2_newName_1 6 rfl rfl)
theorem dX2_newName_33 : decode cX2_newName 33 = .ok (.aload_n 1, 1) := dk_43 (dk_at dksX2_newName_1 9 rfl rfl)
theorem dX2_newName_34 : decode cX2_newName 34 = .ok (.areturn, 1) := dk_176 (dk_at dksX2_newName_1 10 rfl rfl)
abbrev cX2_ore : ByteArray := prog_6_method_20_code
def yX2_ore : MethodName := ⟨RX2, "ore", "()V"⟩
def dkwX2_ore_6 : List UInt8 := [180, 0, 204, 4, 96, 181, 0, 204, 177]
abbrev dktX2_ore_6 : List UInt8 := dkwX2_ore_6 ++ []
def dkwX2_ore_5 : List UInt8 := [167, 255, 200, 42, 180, 0, 109, 180, 0, 218, 42, 180, 0, 109, 180, 0, 204, 44, 83, 42, 180, 0, 109, 89]
abbrev dktX2_ore_5 : List UInt8 := dkwX2_ore_5 ++ dktX2_ore_6
def dkwX2_ore_4 : List UInt8 := [180, 0, 47, 16, 44, 160, 0, 7, 4, 167, 0, 4, 3, 54, 4, 21, 4, 153, 255, 207, 42, 182, 0, 79]
abbrev dktX2_ore_4 : List UInt8 := dkwX2_ore_4 ++ dktX2_ore_5
def dkwX2_ore_3 : List UInt8 := [29, 8, 112, 42, 3, 16, 50, 29, 42, 180, 0, 109, 180, 0, 185, 182, 0, 181, 79, 132, 3, 1, 42]
abbrev dktX2_ore_3 : List UInt8 := dkwX2_ore_3 ++ dktX2_ore_4
def dkwX2_ore_2 : List UInt8 := [183, 0, 211, 77, 42, 18, 214, 182, 0, 135, 3, 62, 4, 54, 4, 21, 4, 153, 0, 57, 44, 180, 0, 216]
abbrev dktX2_ore_2 : List UInt8 := dkwX2_ore_2 ++ dktX2_ore_3
def dkwX2_ore_1 : List UInt8 := [182, 0, 188, 76, 42, 18, 207, 182, 0, 135, 187, 0, 209, 89, 43, 42, 4, 16, 9, 182, 0, 139]
abbrev dktX2_ore_1 : List UInt8 := dkwX2_ore_1 ++ dktX2_ore_2
def dkwX2_ore_0 : List UInt8 := [42, 180, 0, 109, 180, 0, 204, 7, 160, 0, 9, 42, 8, 182, 0, 85, 191, 42, 182, 0, 79, 42]
abbrev dktX2_ore_0 : List UInt8 := dkwX2_ore_0 ++ dktX2_ore_1
theorem dksX2_ore_0 : cX2_ore.data.toList.drop 0 = dktX2_ore_0 := by decide +kernel
theorem dksX2_ore_1 : cX2_ore.data.toList.drop 22 = dktX2_ore_1 := dk_seg dksX2_ore_0 22 rfl rfl
theorem dksX2_ore_2 : cX2_ore.data.toList.drop 44 = dktX2_ore_2 := dk_seg dksX2_ore_1 22 rfl rfl
theorem dksX2_ore_3 : cX2_ore.data.toList.drop 68 = dktX2_ore_3 := dk_seg dksX2_ore_2 24 rfl rfl
theorem dksX2_ore_4 : cX2_ore.data.toList.drop 91 = dktX2_ore_4 := dk_seg dksX2_ore_3 23 rfl rfl
theorem dksX2_ore_5 : cX2_ore.data.toList.drop 115 = dktX2_ore_5 := dk_seg dksX2_ore_4 24 rfl rfl
theorem dksX2_ore_6 : cX2_ore.data.toList.drop 139 = dktX2_ore_6 := dk_seg dksX2_ore_5 24 rfl rfl
theorem dX2_ore_0 : decode cX2_ore 0 = .ok (.aload_n 0, 1) := dk_42 (dk_at dksX2_ore_0 0 rfl rfl)
theorem dX2_ore_1 : decode cX2_ore 1 = .ok (.getfield 109, 3) := dk_180 0 109 (dk_at dksX2_ore_0 1 rfl rfl)
theorem dX2_ore_4 : decode cX2_ore 4 = .ok (.getfield 204, 3) := dk_180 0 204 (dk_at dksX2_ore_0 4 rfl rfl)
theorem dX2_ore_7 : decode cX2_ore 7 = .ok (.iconst 4, 1) := dk_7 (dk_at dksX2_ore_0 7 rfl rfl)
theorem dX2_ore_8 : decode cX2_ore 8 = .ok (.if_icmp .ne 9, 3) := dk_160 0 9 (dk_at dksX2_ore_0 8 rfl rfl)
theorem dX2_ore_11 : decode cX2_ore 11 = .ok (.aload_n 0, 1) := dk_42 (dk_at dksX2_ore_0 11 rfl rfl)
theorem dX2_ore_12 : decode cX2_ore 12 = .ok (.iconst 5, 1) := dk_8 (dk_at dksX2_ore_0 12 rfl rfl)
theorem dX2_ore_13 : decode cX2_ore 13 = .ok (.invokevirtual 85, 3) := dk_182 0 85 (dk_at dksX2_ore_0 13 rfl rfl)
theorem dX2_ore_16 : decode cX2_ore 16 = .ok (.athrow, 1) := dk_191 (dk_at dksX2_ore_0 16 rfl rfl)
theorem dX2_ore_17 : decode cX2_ore 17 = .ok (.aload_n 0, 1) := dk_42 (dk_at dksX2_ore_0 17 rfl rfl)
theorem dX2_ore_18 : decode cX2_ore 18 = .ok (.invokevirtual 79, 3) := dk_182 0 79 (dk_at dksX2_ore_0 18 rfl rfl)
theorem dX2_ore_21 : decode cX2_ore 21 = .ok (.aload_n 0, 1) := dk_42 (dk_at dksX2_ore_0 21 rfl rfl)
theorem dX2_ore_22 : decode cX2_ore 22 = .ok (.invokevirtual 188, 3) := dk_182 0 188 (dk_at dksX2_ore_1 0 rfl rfl)
theorem dX2_ore_25 : decode cX2_ore 25 = .ok (.astore_n 1, 1) := dk_76 (dk_at dksX2_ore_1 3 rfl rfl)
theorem dX2_ore_26 : decode cX2_ore 26 = .ok (.aload_n 0, 1) := dk_42 (dk_at dksX2_ore_1 4 rfl rfl)
theorem dX2_ore_27 : decode cX2_ore 27 = .ok (.ldc 207, 2) := dk_18 207 (dk_at dksX2_ore_1 5 rfl rfl)
theorem dX2_ore_29 : decode cX2_ore 29 = .ok (.invokevirtual 135, 3) := dk_182 0 135 (dk_at dksX2_ore_1 7 rfl rfl)
theorem dX2_ore_32 : decode cX2_ore 32 = .ok (.new 209, 3) := dk_187 0 209 (dk_at dksX2_ore_1 10 rfl rfl)
theorem dX2_ore_35 : decode cX2_ore 35 = .ok (.dup, 1) := dk_89 (dk_at dksX2_ore_1 13 rfl rfl)
theorem dX2_ore_36 : decode cX2_ore 36 = .ok (.aload_n 1, 1) := dk_43 (dk_at dksX2_ore_1 14 rfl rfl)
theorem dX2_ore_37 : decode cX2_ore 37 = .ok (.aload_n 0, 1) := dk_42 (dk_at dksX2_ore_1 15 rfl rfl)
theorem dX2_ore_38 : decode cX2_ore 38 = .ok (.iconst 1, 1) := dk_4 (dk_at dksX2_ore_1 16 rfl rfl)
theorem dX2_ore_39 : decode cX2_ore 39 = .ok (.bipush 9, 2) := dk_16 9 (dk_at dksX2_ore_1 17 rfl rfl)
theorem dX2_ore_41 : decode cX2_ore 41 = .ok (.invokevirtual 139, 3) := dk_182 0 139 (dk_at dksX2_ore_1 19 rfl rfl)
theorem dX2_ore_44 : decode cX2_ore 44 = .ok (.invokespecial 211, 3) := dk_183 0 211 (dk_at dksX2_ore_2 0 rfl rfl)
theorem dX2_ore_47 : decode cX2_ore 47 = .ok (.astore_n 2, 1) := dk_77 (dk_at dksX2_ore_2 3 rfl rfl)
theorem dX2_ore_48 : decode cX2_ore 48 = .ok (.aload_n 0, 1) := dk_42 (dk_at dksX2_ore_2 4 rfl rfl)
theorem dX2_ore_49 : decode cX2_ore 49 = .ok (.ldc 214, 2) := dk_18 214 (dk_at dksX2_ore_2 5 rfl rfl)
theorem dX2_ore_51 : decode cX2_ore 51 = .ok (.invokevirtual 135, 3) := dk_182 0 135 (dk_at dksX2_ore_2 7 rfl rfl)
theorem dX2_ore_54 : decode cX2_ore 54 = .ok (.iconst 0, 1) := dk_3 (dk_at dksX2_ore_2 10 rfl rfl)
theorem dX2_ore_55 : decode cX2_ore 55 = .ok (.istore_n 3, 1) := dk_62 (dk_at dksX2_ore_2 11 rfl rfl)
theorem dX2_ore_56 : decode cX2_ore 56 = .ok (.iconst 1, 1) := dk_4 (dk_at dksX2_ore_2 12 rfl rfl)
theorem dX2_ore_57 : decode cX2_ore 57 = .ok (.istore 4, 2) := dk_54 4 (dk_at dksX2_ore_2 13 rfl rfl)
theorem dX2_ore_59 : decode cX2_ore 59 = .ok (.iload 4, 2) := dk_21 4 (dk_at dksX2_ore_2 15 rfl rfl)
theorem dX2_ore_61 : decode cX2_ore 61 = .ok (.ifCond .eq 57, 3) := dk_153 0 57 (dk_at dksX2_ore_2 17 rfl rfl)
theorem dX2_ore_64 : decode cX2_ore 64 = .ok (.aload_n 2, 1) := dk_44 (dk_at dksX2_ore_2 20 rfl rfl)
theorem dX2_ore_65 : decode cX2_ore 65 = .ok (.getfield 216, 3) := dk_180 0 216 (dk_at dksX2_ore_2 21 rfl rfl)
theorem dX2_ore_68 : decode cX2_ore 68 = .ok (.iload_n 3, 1) := dk_29 (dk_at dksX2_ore_3 0 rfl rfl)
theorem dX2_ore_69 : decode cX2_ore 69 = .ok (.iconst 5, 1) := dk_8 (dk_at dksX2_ore_3 1 rfl rfl)
theorem dX2_ore_70 : decode cX2_ore 70 = .ok (.irem, 1) := dk_112 (dk_at dksX2_ore_3 2 rfl rfl)
theorem dX2_ore_71 : decode cX2_ore 71 = .ok (.aload_n 0, 1) := dk_42 (dk_at dksX2_ore_3 3 rfl rfl)
theorem dX2_ore_72 : decode cX2_ore 72 = .ok (.iconst 0, 1) := dk_3 (dk_at dksX2_ore_3 4 rfl rfl)
theorem dX2_ore_73 : decode cX2_ore 73 = .ok (.bipush 50, 2) := dk_16 50 (dk_at dksX2_ore_3 5 rfl rfl)
theorem dX2_ore_75 : decode cX2_ore 75 = .ok (.iload_n 3, 1) := dk_29 (dk_at dksX2_ore_3 7 rfl rfl)
theorem dX2_ore_76 : decode cX2_ore 76 = .ok (.aload_n 0, 1) := dk_42 (dk_at dksX2_ore_3 8 rfl rfl)
theorem dX2_ore_77 : decode cX2_ore 77 = .ok (.getfield 109, 3) := dk_180 0 109 (dk_at dksX2_ore_3 9 rfl rfl)
theorem dX2_ore_80 : decode cX2_ore 80 = .ok (.getfield 185, 3) := dk_180 0 185 (dk_at dksX2_ore_3 12 rfl rfl)
theorem dX2_ore_83 : decode cX2_ore 83 = .ok (.invokevirtual 181, 3) := dk_182 0 181 (dk_at dksX2_ore_3 15 rfl rfl)
theorem dX2_ore_86 : decode cX2_ore 86 = .ok (.iastore, 1) := dk_79 (dk_at dksX2_ore_3 18 rfl rfl)
theorem dX2_ore_87 : decode cX2_ore 87 = .ok (.iinc 3 1, 3) := dk_132 3 1 (dk_at dksX2_ore_3 19 rfl rfl)
theorem dX2_ore_90 : decode cX2_ore 90 = .ok (.aload_n 0, 1) := dk_42 (dk_at dksX2_ore_3 22 rfl rfl)
theorem dX2_ore_91 : decode cX2_ore 91 = .ok (.getfield 47, 3) := dk_180 0 47 (dk_at dksX2_ore_4 0 rfl rfl)
theorem dX2_ore_94 : decode cX2_ore 94 = .ok (.bipush 44, 2) := dk_16 44 (dk_at dksX2_ore_4 3 rfl rfl)
theorem dX2_ore_96 : decode cX2_ore 96 = .ok (.if_icmp .ne 7, 3) := dk_160 0 7 (dk_at dksX2_ore_4 5 rfl rfl)
theorem dX2_ore_99 : decode cX2_ore 99 = .ok (.iconst 1, 1) := dk_4 (dk_at dksX2_ore_4 8 rfl rfl)
theorem dX2_ore_100 : decode cX2_ore 100 = .ok (.goto 4, 3) := dk_167 0 4 (dk_at dksX2_ore_4 9 rfl rfl)
theorem dX2_ore_103 : decode cX2_ore 103 = .ok (.iconst 0, 1) := dk_3 (dk_at dksX2_ore_4 12 rfl rfl)
theorem dX2_ore_104 : decode cX2_ore 104 = .ok (.istore 4, 2) := dk_54 4 (dk_at dksX2_ore_4 13 rfl rfl)
theorem dX2_ore_106 : decode cX2_ore 106 = .ok (.iload 4, 2) := dk_21 4 (dk_at dksX2_ore_4 15 rfl rfl)
theorem dX2_ore_108 : decode cX2_ore 108 = .ok (.ifCond .eq (-49), 3) := dk_153 255 207 (dk_at dksX2_ore_4 17 rfl rfl)
theorem dX2_ore_111 : decode cX2_ore 111 = .ok (.aload_n 0, 1) := dk_42 (dk_at dksX2_ore_4 20 rfl rfl)
theorem dX2_ore_112 : decode cX2_ore 112 = .ok (.invokevirtual 79, 3) := dk_182 0 79 (dk_at dksX2_ore_4 21 rfl rfl)
theorem dX2_ore_115 : decode cX2_ore 115 = .ok (.goto (-56), 3) := dk_167 255 200 (dk_at dksX2_ore_5 0 rfl rfl)
theorem dX2_ore_118 : decode cX2_ore 118 = .ok (.aload_n 0, 1) := dk_42 (dk_at dksX2_ore_5 3 rfl rfl)
theorem dX2_ore_119 : decode cX2_ore 119 = .ok (.getfield 109, 3) := dk_180 0 109 (dk_at dksX2_ore_5 4 rfl rfl)
theorem dX2_ore_122 : decode cX2_ore 122 = .ok (.getfield 218, 3) := dk_180 0 218 (dk_at dksX2_ore_5 7 rfl rfl)
theorem dX2_ore_125 : decode cX2_ore 125 = .ok (.aload_n 0, 1) := dk_42 (dk_at dksX2_ore_5 10 rfl rfl)
theorem dX2_ore_126 : decode cX2_ore 126 = .ok (.getfield 109, 3) := dk_180 0 109 (dk_at dksX2_ore_5 11 rfl rfl)
theorem dX2_ore_129 : decode cX2_ore 129 = .ok (.getfield 204, 3) := dk_180 0 204 (dk_at dksX2_ore_5 14 rfl rfl)
theorem dX2_ore_132 : decode cX2_ore 132 = .ok (.aload_n 2, 1) := dk_44 (dk_at dksX2_ore_5 17 rfl rfl)
theorem dX2_ore_133 : decode cX2_ore 133 = .ok (.aastore, 1) := dk_83 (dk_at dksX2_ore_5 18 rfl rfl)
theorem dX2_ore_134 : decode cX2_ore 134 = .ok (.aload_n 0, 1) := dk_42 (dk_at dksX2_ore_5 19 rfl rfl)
theorem dX2_ore_135 : decode cX2_ore 135 = .ok (.getfield 109, 3) := dk_180 0 109 (dk_at dksX2_ore_5 20 rfl rfl)
theorem dX2_ore_138 : decode cX2_ore 138 = .ok (.dup, 1) := dk_89 (dk_at dksX2_ore_5 23 rfl rfl)
theorem dX2_ore_139 : decode cX2_ore 139 = .ok (.getfield 204, 3) := dk_180 0 204 (dk_at dksX2_ore_6 0 rfl rfl)
theorem dX2_ore_142 : decode cX2_ore 142 = .ok (.iconst 1, 1) := dk_4 (dk_at dksX2_ore_6 3 rfl rfl)
theorem dX2_ore_143 : decode cX2_ore 143 = .ok (.iadd, 1) := dk_96 (dk_at dksX2_ore_6 4 rfl rfl)
theorem dX2_ore_144 : decode cX2_ore 144 = .ok (.putfield 204, 3) := dk_181 0 204 (dk_at dksX2_ore_6 5 rfl rfl)
theorem dX2_ore_147 : decode cX2_ore 147 = .ok (.return_, 1) := dk_177 (dk_at dksX2_ore_6 8 rfl rfl)
theorem q84 : (Jvm.Cond.initialized "RoarMill$Reader") ∈ lw_all := lw_g (lw_at lw_m1 2 rfl) rfl
theorem q116 : (Jvm.Cond.instantiable "RoarMill$Reader" (10 : Nat)) ∈ lw_all := lw_g (lw_at lw_m1 34 rfl) rfl
theorem q118 : (Jvm.Cond.instanceMethod ({ cls := "RoarMill$Reader", name := "<init>", desc := "([B)V" } : Jvm.MethodName)) ∈ lw_all := lw_g (lw_at lw_m1 36 rfl) rfl
theorem q119 : (Jvm.Cond.code ({ cls := "RoarMill$Reader", name := "<init>", desc := "([B)V" } : Jvm.MethodName) prog_6_method_1_code (2 : Nat) (Option.none : Option Jvm.ClassFile.FieldType)) ∈ lw_all := lw_g (lw_at lw_m1 37 rfl) rfl
theorem q120 : (Jvm.Cond.methodLink "RoarMill$Reader" (3 : Nat) ({ cls := "java/lang/Object", name := "<init>", desc := "()V" } : Jvm.MethodName)) ∈ lw_all := lw_g (lw_at lw_m1 38 rfl) rfl
theorem q121 : (Jvm.Cond.classLink "RoarMill$Reader" (9 : Nat) "RoarMill$Refused") ∈ lw_all := lw_g (lw_at lw_m1 39 rfl) rfl
theorem q161 : (Jvm.Cond.methodLink "RoarMill$Reader" (11 : Nat) ({ cls := "RoarMill$Refused", name := "<init>", desc := "()V" } : Jvm.MethodName)) ∈ lw_all := lw_g (lw_at lw_m1 79 rfl) rfl
theorem q195 : (Jvm.Cond.fieldLink "RoarMill$Reader" (12 : Nat) "RoarMill$Reader" "wrong" "LRoarMill$Refused;") ∈ lw_all := lw_g (lw_at lw_m1 113 rfl) rfl
theorem q196 : (Jvm.Cond.fieldLink "RoarMill$Reader" (22 : Nat) "RoarMill$Reader" "text" "[B") ∈ lw_all := lw_g (lw_at lw_m1 114 rfl) rfl
theorem q197 : (Jvm.Cond.fieldLink "RoarMill$Reader" (18 : Nat) "RoarMill$Reader" "letters" "[C") ∈ lw_all := lw_g (lw_at lw_m1 115 rfl) rfl
theorem q198 : (Jvm.Cond.fieldLink "RoarMill$Reader" (33 : Nat) "RoarMill$Reader" "size" "I") ∈ lw_all := lw_g (lw_at lw_m1 116 rfl) rfl
theorem q199 : (Jvm.Cond.fieldLink "RoarMill$Reader" (40 : Nat) "RoarMill$Reader" "end" "I") ∈ lw_all := lw_g (lw_at lw_m1 117 rfl) rfl
theorem q200 : (Jvm.Cond.fieldLink "RoarMill$Reader" (47 : Nat) "RoarMill$Reader" "token" "I") ∈ lw_all := lw_g (lw_at lw_m1 118 rfl) rfl
theorem q201 : (Jvm.Cond.fieldLink "RoarMill$Reader" (26 : Nat) "RoarMill$Reader" "at" "I") ∈ lw_all := lw_g (lw_at lw_m1 119 rfl) rfl
theorem q202 : (Jvm.Cond.fieldLink "RoarMill$Reader" (68 : Nat) "RoarMill$Reader" "whole" "I") ∈ lw_all := lw_g (lw_at lw_m1 120 rfl) rfl
theorem q203 : (Jvm.Cond.fieldLink "RoarMill$Reader" (61 : Nat) "RoarMill$Reader" "word" "Ljava/lang/String;") ∈ lw_all := lw_g (lw_at lw_m1 121 rfl) rfl
theorem q204 : (Jvm.Cond.fieldLink "RoarMill$Reader" (109 : Nat) "RoarMill$Reader" "works" "LRoarMill$Works;") ∈ lw_all := lw_g (lw_at lw_m1 122 rfl) rfl
theorem q205 : (Jvm.Cond.laysFinal "RoarMill$Reader" "RoarMill$Reader" "wrong" "LRoarMill$Refused;") ∈ lw_all := lw_g (lw_at lw_m1 123 rfl) rfl
theorem q206 : (Jvm.Cond.soleField "RoarMill$Reader" "wrong") ∈ lw_all := lw_g (lw_at lw_m1 124 rfl) rfl
theorem q207 : (Jvm.Cond.laysFinal "RoarMill$Reader" "RoarMill$Reader" "text" "[B") ∈ lw_all := lw_g (lw_at lw_m1 125 rfl) rfl
theorem q208 : (Jvm.Cond.soleField "RoarMill$Reader" "text") ∈ lw_all := lw_g (lw_at lw_m1 126 rfl) rfl
theorem q209 : (Jvm.Cond.laysFinal "RoarMill$Reader" "RoarMill$Reader" "letters" "[C") ∈ lw_all := lw_g (lw_at lw_m1 127 rfl) rfl
theorem q210 : (Jvm.Cond.soleField "RoarMill$Reader" "letters") ∈ lw_all := lw_g (lw_at lw_m1 128 rfl) rfl
theorem q211 : (Jvm.Cond.lays "RoarMill$Reader" "RoarMill$Reader" "size" "I") ∈ lw_all := lw_g (lw_at lw_m1 129 rfl) rfl
theorem q212 : (Jvm.Cond.soleField "RoarMill$Reader" "size") ∈ lw_all := lw_g (lw_at lw_m1 130 rfl) rfl
theorem q213 : (Jvm.Cond.lays "RoarMill$Reader" "RoarMill$Reader" "end" "I") ∈ lw_all := lw_g (lw_at lw_m1 131 rfl) rfl
theorem q214 : (Jvm.Cond.soleField "RoarMill$Reader" "end") ∈ lw_all := lw_g (lw_at lw_m1 132 rfl) rfl
theorem q215 : (Jvm.Cond.lays "RoarMill$Reader" "RoarMill$Reader" "token" "I") ∈ lw_all := lw_g (lw_at lw_m1 133 rfl) rfl
theorem q216 : (Jvm.Cond.soleField "RoarMill$Reader" "token") ∈ lw_all := lw_g (lw_at lw_m1 134 rfl) rfl
theorem q217 : (Jvm.Cond.lays "RoarMill$Reader" "RoarMill$Reader" "at" "I") ∈ lw_all := lw_g (lw_at lw_m1 135 rfl) rfl
theorem q218 : (Jvm.Cond.soleField "RoarMill$Reader" "at") ∈ lw_all := lw_g (lw_at lw_m1 136 rfl) rfl
theorem q219 : (Jvm.Cond.lays "RoarMill$Reader" "RoarMill$Reader" "whole" "I") ∈ lw_all := lw_g (lw_at lw_m1 137 rfl) rfl
theorem q220 : (Jvm.Cond.soleField "RoarMill$Reader" "whole") ∈ lw_all := lw_g (lw_at lw_m1 138 rfl) rfl
theorem q221 : (Jvm.Cond.lays "RoarMill$Reader" "RoarMill$Reader" "word" "Ljava/lang/String;") ∈ lw_all := lw_g (lw_at lw_m1 139 rfl) rfl
theorem q222 : (Jvm.Cond.soleField "RoarMill$Reader" "word") ∈ lw_all := lw_g (lw_at lw_m1 140 rfl) rfl
theorem q223 : (Jvm.Cond.lays "RoarMill$Reader" "RoarMill$Reader" "works" "LRoarMill$Works;") ∈ lw_all := lw_g (lw_at lw_m1 141 rfl) rfl
theorem q224 : (Jvm.Cond.soleField "RoarMill$Reader" "works") ∈ lw_all := lw_g (lw_at lw_m1 142 rfl) rfl
theorem q225 : (Jvm.Cond.superclass "RoarMill$Reader" "java/lang/Object") ∈ lw_all := lw_g (lw_at lw_m1 143 rfl) rfl
theorem q477 : (Jvm.Cond.instanceMethod ({ cls := "RoarMill$Reader", name := "read", desc := "(I)LRoarMill$Works;" } : Jvm.MethodName)) ∈ lw_all := lw_g (lw_at lw_m2 155 rfl) rfl
theorem q478 : (Jvm.Cond.selects "RoarMill$Reader" ({ cls := "RoarMill$Reader", name := "read", desc := "(I)LRoarMill$Works;" } : Jvm.MethodName) ({ cls := "RoarMill$Reader", name := "read", desc := "(I)LRoarMill$Works;" } : Jvm.MethodName)) ∈ lw_all := lw_g (lw_at lw_m2 156 rfl) rfl
theorem q479 : (Jvm.Cond.code ({ cls := "RoarMill$Reader", name := "read", desc := "(I)LRoarMill$Works;" } : Jvm.MethodName) prog_6_method_14_code (2 : Nat) (Option.some (Jvm.ClassFile.FieldType.object "RoarMill$Works"))) ∈ lw_all := lw_g (lw_at lw_m2 157 rfl) rfl
theorem q480 : (Jvm.Cond.classLink "RoarMill$Reader" (114 : Nat) "RoarMill$Works") ∈ lw_all := lw_g (lw_at lw_m2 158 rfl) rfl
theorem q482 : (Jvm.Cond.methodLinkNest "RoarMill$Reader" (119 : Nat) ({ cls := "RoarMill$Works", name := "<init>", desc := "()V" } : Jvm.MethodName) "RoarMill") ∈ lw_tbl := lw_at lw_m2 160 rfl
theorem q493 : (Jvm.Cond.fieldLink "RoarMill$Reader" (195 : Nat) "RoarMill$Works" "sizes" "[LRoarMill$Size;") ∈ lw_all := lw_g (lw_at lw_m2 171 rfl) rfl
theorem q496 : (Jvm.Cond.fieldLink "RoarMill$Reader" (218 : Nat) "RoarMill$Works" "ores" "[LRoarMill$Ore;") ∈ lw_all := lw_g (lw_at lw_m2 174 rfl) rfl
theorem q499 : (Jvm.Cond.fieldLink "RoarMill$Reader" (178 : Nat) "RoarMill$Works" "prices" "[I") ∈ lw_all := lw_g (lw_at lw_m2 177 rfl) rfl
theorem q504 : (Jvm.Cond.fieldLink "RoarMill$Reader" (185 : Nat) "RoarMill$Works" "sizeMany" "I") ∈ lw_all := lw_g (lw_at lw_m2 182 rfl) rfl
theorem q507 : (Jvm.Cond.fieldLink "RoarMill$Reader" (204 : Nat) "RoarMill$Works" "oreMany" "I") ∈ lw_all := lw_g (lw_at lw_m2 185 rfl) rfl
theorem q510 : (Jvm.Cond.fieldLink "RoarMill$Reader" (158 : Nat) "RoarMill$Works" "priceMany" "I") ∈ lw_all := lw_g (lw_at lw_m2 188 rfl) rfl
theorem q514 : (Jvm.Cond.fieldLink "RoarMill$Reader" (127 : Nat) "RoarMill$Works" "room" "I") ∈ lw_all := lw_g (lw_at lw_m2 192 rfl) rfl
theorem q517 : (Jvm.Cond.fieldLink "RoarMill$Reader" (145 : Nat) "RoarMill$Works" "loud" "I") ∈ lw_all := lw_g (lw_at lw_m2 195 rfl) rfl
theorem q522 : (Jvm.Cond.fieldLink "RoarMill$Reader" (168 : Nat) "RoarMill$Works" "sieve" "I") ∈ lw_all := lw_g (lw_at lw_m2 200 rfl) rfl
theorem q526 : (Jvm.Cond.fieldLink "RoarMill$Reader" (176 : Nat) "RoarMill$Works" "slips" "I") ∈ lw_all := lw_g (lw_at lw_m2 204 rfl) rfl
theorem q530 : (Jvm.Cond.fieldLink "RoarMill$Reader" (149 : Nat) "RoarMill$Works" "life" "I") ∈ lw_all := lw_g (lw_at lw_m2 208 rfl) rfl
theorem q534 : (Jvm.Cond.fieldLink "RoarMill$Reader" (152 : Nat) "RoarMill$Works" "bin" "I") ∈ lw_all := lw_g (lw_at lw_m2 212 rfl) rfl
theorem q538 : (Jvm.Cond.fieldLink "RoarMill$Reader" (156 : Nat) "RoarMill$Works" "draws" "I") ∈ lw_all := lw_g (lw_at lw_m2 216 rfl) rfl
theorem q567 : (Jvm.Cond.methodLink "RoarMill$Reader" (79 : Nat) ({ cls := "RoarMill$Reader", name := "next", desc := "()V" } : Jvm.MethodName)) ∈ lw_all := lw_g (lw_at lw_m3 5 rfl) rfl
theorem q568 : (Jvm.Cond.privateMethod ({ cls := "RoarMill$Reader", name := "next", desc := "()V" } : Jvm.MethodName)) ∈ lw_tbl := lw_at lw_m3 6 rfl
theorem q569 : (Jvm.Cond.instanceMethod ({ cls := "RoarMill$Reader", name := "next", desc := "()V" } : Jvm.MethodName)) ∈ lw_all := lw_g (lw_at lw_m3 7 rfl) rfl
theorem q570 : (Jvm.Cond.code ({ cls := "RoarMill$Reader", name := "next", desc := "()V" } : Jvm.MethodName) prog_6_method_6_code (3 : Nat) (Option.none : Option Jvm.ClassFile.FieldType)) ∈ lw_all := lw_g (lw_at lw_m3 8 rfl) rfl
theorem q571 : (Jvm.Cond.methodLink "RoarMill$Reader" (43 : Nat) ({ cls := "RoarMill$Reader", name := "see", desc := "(I)I" } : Jvm.MethodName)) ∈ lw_all := lw_g (lw_at lw_m3 9 rfl) rfl
theorem q572 : (Jvm.Cond.privateMethod ({ cls := "RoarMill$Reader", name := "see", desc := "(I)I" } : Jvm.MethodName)) ∈ lw_tbl := lw_at lw_m3 10 rfl
theorem q573 : (Jvm.Cond.instanceMethod ({ cls := "RoarMill$Reader", name := "see", desc := "(I)I" } : Jvm.MethodName)) ∈ lw_all := lw_g (lw_at lw_m3 11 rfl) rfl
theorem q574 : (Jvm.Cond.code ({ cls := "RoarMill$Reader", name := "see", desc := "(I)I" } : Jvm.MethodName) prog_6_method_3_code (2 : Nat) (Option.some Jvm.ClassFile.FieldType.int)) ∈ lw_all := lw_g (lw_at lw_m3 12 rfl) rfl
theorem q575 : (Jvm.Cond.methodLink "RoarMill$Reader" (50 : Nat) ({ cls := "RoarMill$Reader", name := "isSmall", desc := "(I)Z" } : Jvm.MethodName)) ∈ lw_all := lw_g (lw_at lw_m3 13 rfl) rfl
theorem q576 : (Jvm.Cond.static ({ cls := "RoarMill$Reader", name := "isSmall", desc := "(I)Z" } : Jvm.MethodName)) ∈ lw_all := lw_g (lw_at lw_m3 14 rfl) rfl
theorem q577 : (Jvm.Cond.code ({ cls := "RoarMill$Reader", name := "isSmall", desc := "(I)Z" } : Jvm.MethodName) prog_6_method_4_code (1 : Nat) (Option.some Jvm.ClassFile.FieldType.boolean)) ∈ lw_all := lw_g (lw_at lw_m3 15 rfl) rfl
theorem q578 : (Jvm.Cond.methodLinkNest "RoarMill$Reader" (36 : Nat) ({ cls := "RoarMill", name := "in", desc := "(III)Z" } : Jvm.MethodName) "RoarMill") ∈ lw_tbl := lw_at lw_m3 16 rfl
theorem q579 : (Jvm.Cond.classLink "RoarMill$Reader" (54 : Nat) "java/lang/String") ∈ lw_all := lw_g (lw_at lw_m3 17 rfl) rfl
theorem q581 : (Jvm.Cond.methodLink "RoarMill$Reader" (56 : Nat) ({ cls := "java/lang/String", name := "<init>", desc := "([CII)V" } : Jvm.MethodName)) ∈ lw_all := lw_g (lw_at lw_m3 19 rfl) rfl
theorem q657 : (Jvm.Cond.stringRef "RoarMill$Reader" (59 : Nat) "") ∈ lw_tbl := lw_at lw_m3 95 rfl
theorem q658 : (Jvm.Cond.methodLink "RoarMill$Reader" (65 : Nat) ({ cls := "RoarMill$Reader", name := "isDigit", desc := "(I)Z" } : Jvm.MethodName)) ∈ lw_all := lw_g (lw_at lw_m3 96 rfl) rfl
theorem q659 : (Jvm.Cond.static ({ cls := "RoarMill$Reader", name := "isDigit", desc := "(I)Z" } : Jvm.MethodName)) ∈ lw_all := lw_g (lw_at lw_m3 97 rfl) rfl
theorem q660 : (Jvm.Cond.code ({ cls := "RoarMill$Reader", name := "isDigit", desc := "(I)Z" } : Jvm.MethodName) prog_6_method_5_code (1 : Nat) (Option.some Jvm.ClassFile.FieldType.boolean)) ∈ lw_all := lw_g (lw_at lw_m3 98 rfl) rfl
theorem q661 : (Jvm.Cond.methodLink "RoarMill$Reader" (120 : Nat) ({ cls := "RoarMill$Reader", name := "line", desc := "()V" } : Jvm.MethodName)) ∈ lw_all := lw_g (lw_at lw_m3 99 rfl) rfl
theorem q662 : (Jvm.Cond.privateMethod ({ cls := "RoarMill$Reader", name := "line", desc := "()V" } : Jvm.MethodName)) ∈ lw_tbl := lw_at lw_m3 100 rfl
theorem q663 : (Jvm.Cond.instanceMethod ({ cls := "RoarMill$Reader", name := "line", desc := "()V" } : Jvm.MethodName)) ∈ lw_all := lw_g (lw_at lw_m3 101 rfl) rfl
theorem q664 : (Jvm.Cond.code ({ cls := "RoarMill$Reader", name := "line", desc := "()V" } : Jvm.MethodName) prog_6_method_15_code (5 : Nat) (Option.none : Option Jvm.ClassFile.FieldType)) ∈ lw_all := lw_g (lw_at lw_m3 102 rfl) rfl
theorem q665 : (Jvm.Cond.methodLink "RoarMill$Reader" (85 : Nat) ({ cls := "RoarMill$Reader", name := "fail", desc := "(I)LRoarMill$Refused;" } : Jvm.MethodName)) ∈ lw_all := lw_g (lw_at lw_m3 103 rfl) rfl
theorem q666 : (Jvm.Cond.privateMethod ({ cls := "RoarMill$Reader", name := "fail", desc := "(I)LRoarMill$Refused;" } : Jvm.MethodName)) ∈ lw_tbl := lw_at lw_m3 104 rfl
theorem q667 : (Jvm.Cond.instanceMethod ({ cls := "RoarMill$Reader", name := "fail", desc := "(I)LRoarMill$Refused;" } : Jvm.MethodName)) ∈ lw_all := lw_g (lw_at lw_m3 105 rfl) rfl
theorem q668 : (Jvm.Cond.code ({ cls := "RoarMill$Reader", name := "fail", desc := "(I)LRoarMill$Refused;" } : Jvm.MethodName) prog_6_method_2_code (2 : Nat) (Option.some (Jvm.ClassFile.FieldType.object "RoarMill$Refused"))) ∈ lw_all := lw_g (lw_at lw_m3 106 rfl) rfl
theorem q669 : (Jvm.Cond.methodLink "RoarMill$Reader" (30 : Nat) ({ cls := "RoarMill$Refused", name := "at", desc := "(II)LRoarMill$Refused;" } : Jvm.MethodName)) ∈ lw_all := lw_g (lw_at lw_m3 107 rfl) rfl
theorem q673 : (Jvm.Cond.methodLink "RoarMill$Reader" (89 : Nat) ({ cls := "java/lang/String", name := "hashCode", desc := "()I" } : Jvm.MethodName)) ∈ lw_all := lw_g (lw_at lw_m3 111 rfl) rfl
theorem q726 : (Jvm.Cond.stringRef "RoarMill$Reader" (93 : Nat) "drum") ∈ lw_tbl := lw_at lw_m3 164 rfl
theorem q727 : (Jvm.Cond.methodLink "RoarMill$Reader" (71 : Nat) ({ cls := "java/lang/String", name := "equals", desc := "(Ljava/lang/Object;)Z" } : Jvm.MethodName)) ∈ lw_all := lw_g (lw_at lw_m3 165 rfl) rfl
theorem q735 : (Jvm.Cond.stringRef "RoarMill$Reader" (95 : Nat) "sieve") ∈ lw_tbl := lw_at lw_m3 173 rfl
theorem q736 : (Jvm.Cond.stringRef "RoarMill$Reader" (97 : Nat) "liner") ∈ lw_tbl := lw_at lw_m3 174 rfl
theorem q737 : (Jvm.Cond.stringRef "RoarMill$Reader" (99 : Nat) "bin") ∈ lw_tbl := lw_at lw_m3 175 rfl
theorem q738 : (Jvm.Cond.stringRef "RoarMill$Reader" (101 : Nat) "price") ∈ lw_tbl := lw_at lw_m3 176 rfl
theorem q739 : (Jvm.Cond.stringRef "RoarMill$Reader" (103 : Nat) "size") ∈ lw_tbl := lw_at lw_m3 177 rfl
theorem q740 : (Jvm.Cond.stringRef "RoarMill$Reader" (104 : Nat) "ore") ∈ lw_tbl := lw_at lw_m3 178 rfl
theorem q741 : (Jvm.Cond.methodLink "RoarMill$Reader" (130 : Nat) ({ cls := "RoarMill$Reader", name := "once", desc := "(Z)V" } : Jvm.MethodName)) ∈ lw_all := lw_g (lw_at lw_m3 179 rfl) rfl
theorem q742 : (Jvm.Cond.privateMethod ({ cls := "RoarMill$Reader", name := "once", desc := "(Z)V" } : Jvm.MethodName)) ∈ lw_tbl := lw_at lw_m3 180 rfl
theorem q743 : (Jvm.Cond.instanceMethod ({ cls := "RoarMill$Reader", name := "once", desc := "(Z)V" } : Jvm.MethodName)) ∈ lw_all := lw_g (lw_at lw_m3 181 rfl) rfl
theorem q744 : (Jvm.Cond.code ({ cls := "RoarMill$Reader", name := "once", desc := "(Z)V" } : Jvm.MethodName) prog_6_method_13_code (2 : Nat) (Option.none : Option Jvm.ClassFile.FieldType)) ∈ lw_all := lw_g (lw_at lw_m3 182 rfl) rfl
theorem q745 : (Jvm.Cond.stringRef "RoarMill$Reader" (134 : Nat) "room") ∈ lw_tbl := lw_at lw_m3 183 rfl
theorem q746 : (Jvm.Cond.methodLink "RoarMill$Reader" (135 : Nat) ({ cls := "RoarMill$Reader", name := "must", desc := "(Ljava/lang/String;)V" } : Jvm.MethodName)) ∈ lw_all := lw_g (lw_at lw_m3 184 rfl) rfl
theorem q747 : (Jvm.Cond.privateMethod ({ cls := "RoarMill$Reader", name := "must", desc := "(Ljava/lang/String;)V" } : Jvm.MethodName)) ∈ lw_tbl := lw_at lw_m3 185 rfl
theorem q748 : (Jvm.Cond.instanceMethod ({ cls := "RoarMill$Reader", name := "must", desc := "(Ljava/lang/String;)V" } : Jvm.MethodName)) ∈ lw_all := lw_g (lw_at lw_m3 186 rfl) rfl
theorem q749 : (Jvm.Cond.code ({ cls := "RoarMill$Reader", name := "must", desc := "(Ljava/lang/String;)V" } : Jvm.MethodName) prog_6_method_9_code (2 : Nat) (Option.none : Option Jvm.ClassFile.FieldType)) ∈ lw_all := lw_g (lw_at lw_m3 187 rfl) rfl
theorem q750 : (Jvm.Cond.methodLink "RoarMill$Reader" (82 : Nat) ({ cls := "RoarMill$Reader", name := "takes", desc := "(Ljava/lang/String;)Z" } : Jvm.MethodName)) ∈ lw_all := lw_g (lw_at lw_m3 188 rfl) rfl
theorem q751 : (Jvm.Cond.privateMethod ({ cls := "RoarMill$Reader", name := "takes", desc := "(Ljava/lang/String;)Z" } : Jvm.MethodName)) ∈ lw_tbl := lw_at lw_m3 189 rfl
theorem q752 : (Jvm.Cond.instanceMethod ({ cls := "RoarMill$Reader", name := "takes", desc := "(Ljava/lang/String;)Z" } : Jvm.MethodName)) ∈ lw_all := lw_g (lw_at lw_m3 190 rfl) rfl
theorem q753 : (Jvm.Cond.code ({ cls := "RoarMill$Reader", name := "takes", desc := "(Ljava/lang/String;)Z" } : Jvm.MethodName) prog_6_method_8_code (2 : Nat) (Option.some Jvm.ClassFile.FieldType.boolean)) ∈ lw_all := lw_g (lw_at lw_m3 191 rfl) rfl
theorem q754 : (Jvm.Cond.methodLink "RoarMill$Reader" (75 : Nat) ({ cls := "RoarMill$Reader", name := "isWord", desc := "(Ljava/lang/String;)Z" } : Jvm.MethodName)) ∈ lw_all := lw_g (lw_at lw_m3 192 rfl) rfl
theorem q755 : (Jvm.Cond.privateMethod ({ cls := "RoarMill$Reader", name := "isWord", desc := "(Ljava/lang/String;)Z" } : Jvm.MethodName)) ∈ lw_tbl := lw_at lw_m3 193 rfl
theorem q756 : (Jvm.Cond.instanceMethod ({ cls := "RoarMill$Reader", name := "isWord", desc := "(Ljava/lang/String;)Z" } : Jvm.MethodName)) ∈ lw_all := lw_g (lw_at lw_m3 194 rfl) rfl
theorem q757 : (Jvm.Cond.code ({ cls := "RoarMill$Reader", name := "isWord", desc := "(Ljava/lang/String;)Z" } : Jvm.MethodName) prog_6_method_7_code (2 : Nat) (Option.some Jvm.ClassFile.FieldType.boolean)) ∈ lw_all := lw_g (lw_at lw_m3 195 rfl) rfl
theorem q758 : (Jvm.Cond.methodLink "RoarMill$Reader" (139 : Nat) ({ cls := "RoarMill$Reader", name := "number", desc := "(II)I" } : Jvm.MethodName)) ∈ lw_all := lw_g (lw_at lw_m3 196 rfl) rfl
theorem q759 : (Jvm.Cond.privateMethod ({ cls := "RoarMill$Reader", name := "number", desc := "(II)I" } : Jvm.MethodName)) ∈ lw_tbl := lw_at lw_m3 197 rfl
theorem q760 : (Jvm.Cond.instanceMethod ({ cls := "RoarMill$Reader", name := "number", desc := "(II)I" } : Jvm.MethodName)) ∈ lw_all := lw_g (lw_at lw_m3 198 rfl) rfl
theorem q761 : (Jvm.Cond.code ({ cls := "RoarMill$Reader", name := "number", desc := "(II)I" } : Jvm.MethodName) prog_6_method_12_code (4 : Nat) (Option.some Jvm.ClassFile.FieldType.int)) ∈ lw_all := lw_g (lw_at lw_m3 199 rfl) rfl
theorem q762 : (Jvm.Cond.stringRef "RoarMill$Reader" (143 : Nat) "loud") ∈ lw_tbl := lw_at lw_m3 200 rfl
theorem q763 : (Jvm.Cond.methodLink "RoarMill$Reader" (147 : Nat) ({ cls := "RoarMill$Reader", name := "sieve", desc := "()V" } : Jvm.MethodName)) ∈ lw_all := lw_g (lw_at lw_m3 201 rfl) rfl
theorem q764 : (Jvm.Cond.privateMethod ({ cls := "RoarMill$Reader", name := "sieve", desc := "()V" } : Jvm.MethodName)) ∈ lw_tbl := lw_at lw_m3 202 rfl
theorem q765 : (Jvm.Cond.instanceMethod ({ cls := "RoarMill$Reader", name := "sieve", desc := "()V" } : Jvm.MethodName)) ∈ lw_all := lw_g (lw_at lw_m3 203 rfl) rfl
theorem q766 : (Jvm.Cond.code ({ cls := "RoarMill$Reader", name := "sieve", desc := "()V" } : Jvm.MethodName) prog_6_method_16_code (2 : Nat) (Option.none : Option Jvm.ClassFile.FieldType)) ∈ lw_all := lw_g (lw_at lw_m3 204 rfl) rfl
theorem q767 : (Jvm.Cond.methodLink "RoarMill$Reader" (106 : Nat) ({ cls := "RoarMill$Reader", name := "mustName", desc := "()V" } : Jvm.MethodName)) ∈ lw_all := lw_g (lw_at lw_m3 205 rfl) rfl
theorem q768 : (Jvm.Cond.privateMethod ({ cls := "RoarMill$Reader", name := "mustName", desc := "()V" } : Jvm.MethodName)) ∈ lw_tbl := lw_at lw_m3 206 rfl
theorem q769 : (Jvm.Cond.instanceMethod ({ cls := "RoarMill$Reader", name := "mustName", desc := "()V" } : Jvm.MethodName)) ∈ lw_all := lw_g (lw_at lw_m3 207 rfl) rfl
theorem q770 : (Jvm.Cond.code ({ cls := "RoarMill$Reader", name := "mustName", desc := "()V" } : Jvm.MethodName) prog_6_method_10_code (3 : Nat) (Option.none : Option Jvm.ClassFile.FieldType)) ∈ lw_all := lw_g (lw_at lw_m3 208 rfl) rfl
theorem q771 : (Jvm.Cond.methodLink "RoarMill$Reader" (170 : Nat) ({ cls := "RoarMill$Works", name := "sizeOf", desc := "(Ljava/lang/String;)I" } : Jvm.MethodName)) ∈ lw_all := lw_g (lw_at lw_m3 209 rfl) rfl
theorem q776 : (Jvm.Cond.stringRef "RoarMill$Reader" (174 : Nat) "slips") ∈ lw_tbl := lw_at lw_m3 214 rfl
theorem q777 : (Jvm.Cond.stringRef "RoarMill$Reader" (154 : Nat) "draws") ∈ lw_tbl := lw_at lw_m3 215 rfl
theorem q778 : (Jvm.Cond.methodLink "RoarMill$Reader" (161 : Nat) ({ cls := "RoarMill$Reader", name := "prices", desc := "()V" } : Jvm.MethodName)) ∈ lw_all := lw_g (lw_at lw_m3 216 rfl) rfl
theorem q779 : (Jvm.Cond.privateMethod ({ cls := "RoarMill$Reader", name := "prices", desc := "()V" } : Jvm.MethodName)) ∈ lw_tbl := lw_at lw_m3 217 rfl
theorem q780 : (Jvm.Cond.instanceMethod ({ cls := "RoarMill$Reader", name := "prices", desc := "()V" } : Jvm.MethodName)) ∈ lw_all := lw_g (lw_at lw_m3 218 rfl) rfl
theorem q781 : (Jvm.Cond.code ({ cls := "RoarMill$Reader", name := "prices", desc := "()V" } : Jvm.MethodName) prog_6_method_17_code (2 : Nat) (Option.none : Option Jvm.ClassFile.FieldType)) ∈ lw_all := lw_g (lw_at lw_m3 219 rfl) rfl
theorem q782 : (Jvm.Cond.methodLink "RoarMill$Reader" (181 : Nat) ({ cls := "RoarMill$Reader", name := "last", desc := "(IIII)I" } : Jvm.MethodName)) ∈ lw_all := lw_g (lw_at lw_m3 220 rfl) rfl
theorem q783 : (Jvm.Cond.privateMethod ({ cls := "RoarMill$Reader", name := "last", desc := "(IIII)I" } : Jvm.MethodName)) ∈ lw_tbl := lw_at lw_m3 221 rfl
theorem q784 : (Jvm.Cond.instanceMethod ({ cls := "RoarMill$Reader", name := "last", desc := "(IIII)I" } : Jvm.MethodName)) ∈ lw_all := lw_g (lw_at lw_m3 222 rfl) rfl
theorem q785 : (Jvm.Cond.code ({ cls := "RoarMill$Reader", name := "last", desc := "(IIII)I" } : Jvm.MethodName) prog_6_method_18_code (5 : Nat) (Option.some Jvm.ClassFile.FieldType.int)) ∈ lw_all := lw_g (lw_at lw_m3 223 rfl) rfl
theorem q786 : (Jvm.Cond.methodLink "RoarMill$Reader" (164 : Nat) ({ cls := "RoarMill$Reader", name := "size", desc := "()V" } : Jvm.MethodName)) ∈ lw_all := lw_g (lw_at lw_m3 224 rfl) rfl
theorem q787 : (Jvm.Cond.privateMethod ({ cls := "RoarMill$Reader", name := "size", desc := "()V" } : Jvm.MethodName)) ∈ lw_tbl := lw_at lw_m3 225 rfl
theorem q788 : (Jvm.Cond.instanceMethod ({ cls := "RoarMill$Reader", name := "size", desc := "()V" } : Jvm.MethodName)) ∈ lw_all := lw_g (lw_at lw_m3 226 rfl) rfl
theorem q789 : (Jvm.Cond.code ({ cls := "RoarMill$Reader", name := "size", desc := "()V" } : Jvm.MethodName) prog_6_method_19_code (4 : Nat) (Option.none : Option Jvm.ClassFile.FieldType)) ∈ lw_all := lw_g (lw_at lw_m3 227 rfl) rfl
theorem q790 : (Jvm.Cond.methodLink "RoarMill$Reader" (188 : Nat) ({ cls := "RoarMill$Reader", name := "newName", desc := "()Ljava/lang/String;" } : Jvm.MethodName)) ∈ lw_all := lw_g (lw_at lw_m3 228 rfl) rfl
theorem q791 : (Jvm.Cond.privateMethod ({ cls := "RoarMill$Reader", name := "newName", desc := "()Ljava/lang/String;" } : Jvm.MethodName)) ∈ lw_tbl := lw_at lw_m3 229 rfl
theorem q792 : (Jvm.Cond.instanceMethod ({ cls := "RoarMill$Reader", name := "newName", desc := "()Ljava/lang/String;" } : Jvm.MethodName)) ∈ lw_all := lw_g (lw_at lw_m3 230 rfl) rfl
theorem q793 : (Jvm.Cond.code ({ cls := "RoarMill$Reader", name := "newName", desc := "()Ljava/lang/String;" } : Jvm.MethodName) prog_6_method_11_code (2 : Nat) (Option.some (Jvm.ClassFile.FieldType.object "java/lang/String"))) ∈ lw_all := lw_g (lw_at lw_m3 231 rfl) rfl
theorem q794 : (Jvm.Cond.methodLink "RoarMill$Reader" (113 : Nat) ({ cls := "RoarMill$Works", name := "find", desc := "(Ljava/lang/String;)LRoarMill$Named;" } : Jvm.MethodName)) ∈ lw_all := lw_g (lw_at lw_m3 232 rfl) rfl
theorem q798 : (Jvm.Cond.stringRef "RoarMill$Reader" (192 : Nat) "breaks") ∈ lw_tbl := lw_at lw_m3 236 rfl
theorem q799 : (Jvm.Cond.stringRef "RoarMill$Reader" (194 : Nat) "next") ∈ lw_tbl := lw_at lw_m3 237 rfl
theorem q800 : (Jvm.Cond.classLink "RoarMill$Reader" (199 : Nat) "RoarMill$Size") ∈ lw_all := lw_g (lw_at lw_m3 238 rfl) rfl
theorem q802 : (Jvm.Cond.methodLink "RoarMill$Reader" (201 : Nat) ({ cls := "RoarMill$Size", name := "<init>", desc := "(Ljava/lang/String;II)V" } : Jvm.MethodName)) ∈ lw_all := lw_g (lw_at lw_m4 0 rfl) rfl
theorem q827 : (Jvm.Cond.methodLink "RoarMill$Reader" (166 : Nat) ({ cls := "RoarMill$Reader", name := "ore", desc := "()V" } : Jvm.MethodName)) ∈ lw_all := lw_g (lw_at lw_m4 25 rfl) rfl
theorem q828 : (Jvm.Cond.privateMethod ({ cls := "RoarMill$Reader", name := "ore", desc := "()V" } : Jvm.MethodName)) ∈ lw_tbl := lw_at lw_m4 26 rfl
theorem q829 : (Jvm.Cond.instanceMethod ({ cls := "RoarMill$Reader", name := "ore", desc := "()V" } : Jvm.MethodName)) ∈ lw_all := lw_g (lw_at lw_m4 27 rfl) rfl
theorem q830 : (Jvm.Cond.code ({ cls := "RoarMill$Reader", name := "ore", desc := "()V" } : Jvm.MethodName) prog_6_method_20_code (5 : Nat) (Option.none : Option Jvm.ClassFile.FieldType)) ∈ lw_all := lw_g (lw_at lw_m4 28 rfl) rfl
theorem q831 : (Jvm.Cond.stringRef "RoarMill$Reader" (207 : Nat) "hard") ∈ lw_tbl := lw_at lw_m4 29 rfl
theorem q832 : (Jvm.Cond.classLink "RoarMill$Reader" (209 : Nat) "RoarMill$Ore") ∈ lw_all := lw_g (lw_at lw_m4 30 rfl) rfl
theorem q834 : (Jvm.Cond.methodLink "RoarMill$Reader" (211 : Nat) ({ cls := "RoarMill$Ore", name := "<init>", desc := "(Ljava/lang/String;I)V" } : Jvm.MethodName)) ∈ lw_all := lw_g (lw_at lw_m4 32 rfl) rfl
theorem q842 : (Jvm.Cond.fieldLink "RoarMill$Reader" (216 : Nat) "RoarMill$Ore" "tons" "[I") ∈ lw_all := lw_g (lw_at lw_m4 40 rfl) rfl
theorem q849 : (Jvm.Cond.stringRef "RoarMill$Reader" (214 : Nat) "tons") ∈ lw_tbl := lw_at lw_m4 47 rfl
theorem q850 : (Jvm.Cond.methodLink "RoarMill$Reader" (123 : Nat) ({ cls := "RoarMill$Works", name := "lacks", desc := "()Z" } : Jvm.MethodName)) ∈ lw_all := lw_g (lw_at lw_m4 48 rfl) rfl
theorem q1696 : (Jvm.Cond.castable "RoarMill$Reader" "java/lang/Object") ∈ lw_tbl := lw_at lw_m7 174 rfl
theorem in_X2 : ∀ w ∈ wsX20, w ∈ lw_all := lw_in wsX20 [205, 207, 209, 211, 213, 215, 217, 219, 221, 223] (by decide +kernel) (by decide +kernel)

/-! RoarMill$Refused -/
set_option maxRecDepth 100000
def RX3 : String := "RoarMill$Refused"
def TX3 : u_T := fun k => match k with
  | 0 => ("java/lang/Throwable", "cause", "Ljava/lang/Throwable;", false)
  | 1 => ("java/lang/Throwable", "stackTrace", "[Ljava/lang/StackTraceElement;", false)
  | 2 => ("java/lang/Throwable", "suppressedExceptions", "Ljava/util/List;", false)
  | 3 => ("java/lang/Throwable", "detailMessage", "Ljava/lang/String;", false)
  | 4 => ("java/lang/Throwable", "backtrace", "Ljava/lang/Object;", false)
  | 5 => ("java/lang/Throwable", "depth", "I", false)
  | 6 => ("RoarMill$Refused", "fault", "I", false)
  | _ => ("RoarMill$Refused", "place", "I", false)
def tyX3 : Nat → FieldType := fun k => match k with
  | 0 => .object "java/lang/Throwable"
  | 1 => .array (.object "java/lang/StackTraceElement")
  | 2 => .object "java/util/List"
  | 3 => .object "java/lang/String"
  | 4 => .object "java/lang/Object"
  | 5 => .int
  | 6 => .int
  | _ => .int
abbrev wsX30 : List Cond := u_ws RX3 TX3 8
theorem nmX3 : ∀ a, a < 8 → ∀ b, b < 8 → a ≠ b → (TX3 a).2.1 ≠ (TX3 b).2.1 := by decide +kernel
theorem tyX3_ok : ∀ k, k < 8 → parseFieldDescriptor (TX3 k).2.2.1 = some (tyX3 k) := by decide +kernel
abbrev cX3_init : ByteArray := prog_7_method_1_code
def yX3_init : MethodName := ⟨RX3, "<init>", "()V"⟩
def dkwX3_init_0 : List UInt8 := [42, 1, 1, 3, 3, 183, 0, 3, 42, 2, 181, 0, 9, 177]
abbrev dktX3_init_0 : List UInt8 := dkwX3_init_0 ++ []
theorem dksX3_init_0 : cX3_init.data.toList.drop 0 = dktX3_init_0 := by decide +kernel
theorem dX3_init_0 : decode cX3_init 0 = .ok (.aload_n 0, 1) := dk_42 (dk_at dksX3_init_0 0 rfl rfl)
theorem dX3_init_1 : decode cX3_init 1 = .ok (.aconst_null, 1) := dk_1 (dk_at dksX3_init_0 1 rfl rfl)
theorem dX3_init_2 : decode cX3_init 2 = .ok (.aconst_null, 1) := dk_1 (dk_at dksX3_init_0 2 rfl rfl)
theorem dX3_init_3 : decode cX3_init 3 = .ok (.iconst 0, 1) := dk_3 (dk_at dksX3_init_0 3 rfl rfl)
theorem dX3_init_4 : decode cX3_init 4 = .ok (.iconst 0, 1) := dk_3 (dk_at dksX3_init_0 4 rfl rfl)
theorem dX3_init_5 : decode cX3_init 5 = .ok (.invokespecial 3, 3) := dk_183 0 3 (dk_at dksX3_init_0 5 rfl rfl)
theorem dX3_init_8 : decode cX3_init 8 = .ok (.aload_n 0, 1) := dk_42 (dk_at dksX3_init_0 8 rfl rfl)
theorem dX3_init_9 : decode cX3_init 9 = .ok (.iconst (-1), 1) := dk_2 (dk_at dksX3_init_0 9 rfl rfl)
theorem dX3_init_10 : decode cX3_init 10 = .ok (.putfield 9, 3) := dk_181 0 9 (dk_at dksX3_init_0 10 rfl rfl)
theorem dX3_init_13 : decode cX3_init 13 = .ok (.return_, 1) := dk_177 (dk_at dksX3_init_0 13 rfl rfl)
abbrev cX3_at : ByteArray := prog_7_method_2_code
def yX3_at : MethodName := ⟨RX3, "at", "(II)LRoarMill$Refused;"⟩
def dkwX3_at_0 : List UInt8 := [42, 27, 181, 0, 15, 42, 28, 181, 0, 9, 42, 176]
abbrev dktX3_at_0 : List UInt8 := dkwX3_at_0 ++ []
theorem dksX3_at_0 : cX3_at.data.toList.drop 0 = dktX3_at_0 := by decide +kernel
theorem dX3_at_0 : decode cX3_at 0 = .ok (.aload_n 0, 1) := dk_42 (dk_at dksX3_at_0 0 rfl rfl)
theorem dX3_at_1 : decode cX3_at 1 = .ok (.iload_n 1, 1) := dk_27 (dk_at dksX3_at_0 1 rfl rfl)
theorem dX3_at_2 : decode cX3_at 2 = .ok (.putfield 15, 3) := dk_181 0 15 (dk_at dksX3_at_0 2 rfl rfl)
theorem dX3_at_5 : decode cX3_at 5 = .ok (.aload_n 0, 1) := dk_42 (dk_at dksX3_at_0 5 rfl rfl)
theorem dX3_at_6 : decode cX3_at 6 = .ok (.iload_n 2, 1) := dk_28 (dk_at dksX3_at_0 6 rfl rfl)
theorem dX3_at_7 : decode cX3_at 7 = .ok (.putfield 9, 3) := dk_181 0 9 (dk_at dksX3_at_0 7 rfl rfl)
theorem dX3_at_10 : decode cX3_at 10 = .ok (.aload_n 0, 1) := dk_42 (dk_at dksX3_at_0 10 rfl rfl)
theorem dX3_at_11 : decode cX3_at 11 = .ok (.areturn, 1) := dk_176 (dk_at dksX3_at_0 11 rfl rfl)
theorem q88 : (Jvm.Cond.initialized "RoarMill$Refused") ∈ lw_all := lw_g (lw_at lw_m1 6 rfl) rfl
theorem q122 : (Jvm.Cond.instantiable "RoarMill$Refused" (8 : Nat)) ∈ lw_all := lw_g (lw_at lw_m1 40 rfl) rfl
theorem q123 : (Jvm.Cond.castable "RoarMill$Refused" "RoarMill$Refused") ∈ lw_tbl := lw_at lw_m1 41 rfl
theorem q130 : (Jvm.Cond.selects "RoarMill$Refused" ({ cls := "java/lang/Throwable", name := "fillInStackTrace", desc := "(I)Ljava/lang/Throwable;" } : Jvm.MethodName) ({ cls := "java/lang/Throwable", name := "fillInStackTrace", desc := "(I)Ljava/lang/Throwable;" } : Jvm.MethodName)) ∈ lw_all := lw_g (lw_at lw_m1 48 rfl) rfl
theorem q131 : (Jvm.Cond.selects "RoarMill$Refused" ({ cls := "java/lang/Throwable", name := "fillInStackTrace", desc := "()Ljava/lang/Throwable;" } : Jvm.MethodName) ({ cls := "java/lang/Throwable", name := "fillInStackTrace", desc := "()Ljava/lang/Throwable;" } : Jvm.MethodName)) ∈ lw_all := lw_g (lw_at lw_m1 49 rfl) rfl
theorem q132 : (Jvm.Cond.lays "RoarMill$Refused" "java/lang/Throwable" "cause" "Ljava/lang/Throwable;") ∈ lw_all := lw_g (lw_at lw_m1 50 rfl) rfl
theorem q134 : (Jvm.Cond.lays "RoarMill$Refused" "java/lang/Throwable" "stackTrace" "[Ljava/lang/StackTraceElement;") ∈ lw_all := lw_g (lw_at lw_m1 52 rfl) rfl
theorem q136 : (Jvm.Cond.lays "RoarMill$Refused" "java/lang/Throwable" "suppressedExceptions" "Ljava/util/List;") ∈ lw_all := lw_g (lw_at lw_m1 54 rfl) rfl
theorem q138 : (Jvm.Cond.lays "RoarMill$Refused" "java/lang/Throwable" "detailMessage" "Ljava/lang/String;") ∈ lw_all := lw_g (lw_at lw_m1 56 rfl) rfl
theorem q140 : (Jvm.Cond.lays "RoarMill$Refused" "java/lang/Throwable" "backtrace" "Ljava/lang/Object;") ∈ lw_all := lw_g (lw_at lw_m1 58 rfl) rfl
theorem q162 : (Jvm.Cond.instanceMethod ({ cls := "RoarMill$Refused", name := "<init>", desc := "()V" } : Jvm.MethodName)) ∈ lw_all := lw_g (lw_at lw_m1 80 rfl) rfl
theorem q163 : (Jvm.Cond.code ({ cls := "RoarMill$Refused", name := "<init>", desc := "()V" } : Jvm.MethodName) prog_7_method_1_code (1 : Nat) (Option.none : Option Jvm.ClassFile.FieldType)) ∈ lw_all := lw_g (lw_at lw_m1 81 rfl) rfl
theorem q164 : (Jvm.Cond.methodLink "RoarMill$Refused" (3 : Nat) ({ cls := "java/lang/RuntimeException", name := "<init>", desc := "(Ljava/lang/String;Ljava/lang/Throwable;ZZ)V" } : Jvm.MethodName)) ∈ lw_all := lw_g (lw_at lw_m1 82 rfl) rfl
theorem q173 : (Jvm.Cond.fieldLink "RoarMill$Refused" (15 : Nat) "RoarMill$Refused" "fault" "I") ∈ lw_all := lw_g (lw_at lw_m1 91 rfl) rfl
theorem q175 : (Jvm.Cond.fieldLink "RoarMill$Refused" (9 : Nat) "RoarMill$Refused" "place" "I") ∈ lw_all := lw_g (lw_at lw_m1 93 rfl) rfl
theorem q182 : (Jvm.Cond.lays "RoarMill$Refused" "RoarMill$Refused" "fault" "I") ∈ lw_all := lw_g (lw_at lw_m1 100 rfl) rfl
theorem q183 : (Jvm.Cond.soleField "RoarMill$Refused" "fault") ∈ lw_all := lw_g (lw_at lw_m1 101 rfl) rfl
theorem q184 : (Jvm.Cond.lays "RoarMill$Refused" "RoarMill$Refused" "place" "I") ∈ lw_all := lw_g (lw_at lw_m1 102 rfl) rfl
theorem q185 : (Jvm.Cond.soleField "RoarMill$Refused" "place") ∈ lw_all := lw_g (lw_at lw_m1 103 rfl) rfl
theorem q190 : (Jvm.Cond.lays "RoarMill$Refused" "java/lang/Throwable" "depth" "I") ∈ lw_all := lw_g (lw_at lw_m1 108 rfl) rfl
theorem q193 : (Jvm.Cond.superclass "RoarMill$Refused" "java/lang/RuntimeException") ∈ lw_all := lw_g (lw_at lw_m1 111 rfl) rfl
theorem q670 : (Jvm.Cond.instanceMethod ({ cls := "RoarMill$Refused", name := "at", desc := "(II)LRoarMill$Refused;" } : Jvm.MethodName)) ∈ lw_all := lw_g (lw_at lw_m3 108 rfl) rfl
theorem q671 : (Jvm.Cond.selects "RoarMill$Refused" ({ cls := "RoarMill$Refused", name := "at", desc := "(II)LRoarMill$Refused;" } : Jvm.MethodName) ({ cls := "RoarMill$Refused", name := "at", desc := "(II)LRoarMill$Refused;" } : Jvm.MethodName)) ∈ lw_all := lw_g (lw_at lw_m3 109 rfl) rfl
theorem q672 : (Jvm.Cond.code ({ cls := "RoarMill$Refused", name := "at", desc := "(II)LRoarMill$Refused;" } : Jvm.MethodName) prog_7_method_2_code (3 : Nat) (Option.some (Jvm.ClassFile.FieldType.object "RoarMill$Refused"))) ∈ lw_all := lw_g (lw_at lw_m3 110 rfl) rfl
theorem q1697 : (Jvm.Cond.castable "RoarMill$Refused" "java/lang/Object") ∈ lw_tbl := lw_at lw_m7 175 rfl
theorem in_X3 : ∀ w ∈ wsX30, w ∈ lw_all := lw_in wsX30 [132, 134, 136, 138, 140, 190, 182, 184] (by decide +kernel) (by decide +kernel)

/-! RoarMill$State -/
set_option maxRecDepth 100000
def RX4 : String := "RoarMill$State"
def TX4 : u_T := fun k => match k with
  | 0 => ("RoarMill$State", "held", "[I", true)
  | 1 => ("RoarMill$State", "back", "[I", true)
  | 2 => ("RoarMill$State", "passed", "[I", true)
  | 3 => ("RoarMill$State", "passedAll", "[I", true)
  | 4 => ("RoarMill$State", "inBin", "I", false)
  | 5 => ("RoarMill$State", "spilt", "I", false)
  | 6 => ("RoarMill$State", "drawn", "I", false)
  | 7 => ("RoarMill$State", "lacking", "I", false)
  | 8 => ("RoarMill$State", "age", "I", false)
  | 9 => ("RoarMill$State", "tears", "I", false)
  | 10 => ("RoarMill$State", "now", "I", false)
  | 11 => ("RoarMill$State", "full", "I", false)
  | 12 => ("RoarMill$State", "effect", "I", false)
  | 13 => ("RoarMill$State", "power", "I", false)
  | 14 => ("RoarMill$State", "roar", "I", false)
  | 15 => ("RoarMill$State", "came", "I", false)
  | 16 => ("RoarMill$State", "cost", "J", false)
  | _ => ("RoarMill$State", "stands", "Z", false)
def tyX4 : Nat → FieldType := fun k => match k with
  | 0 => .array .int
  | 1 => .array .int
  | 2 => .array .int
  | 3 => .array .int
  | 4 => .int
  | 5 => .int
  | 6 => .int
  | 7 => .int
  | 8 => .int
  | 9 => .int
  | 10 => .int
  | 11 => .int
  | 12 => .int
  | 13 => .int
  | 14 => .int
  | 15 => .int
  | 16 => .long
  | _ => .boolean
abbrev wsX40 : List Cond := u_ws RX4 TX4 18
set_option maxRecDepth 100000 in
theorem nmX4 : ∀ a, a < 18 → ∀ b, b < 18 → a ≠ b → (TX4 a).2.1 ≠ (TX4 b).2.1 := by decide +kernel
set_option maxRecDepth 100000 in
theorem tyX4_ok : ∀ k, k < 18 → parseFieldDescriptor (TX4 k).2.2.1 = some (tyX4 k) := by decide +kernel
abbrev cX4_init : ByteArray := prog_11_method_1_code
def yX4_init : MethodName := ⟨RX4, "<init>", "()V"⟩
def dkwX4_init_1 : List UInt8 := [181, 0, 18, 42, 8, 188, 10, 181, 0, 21, 177]
abbrev dktX4_init_1 : List UInt8 := dkwX4_init_1 ++ []
def dkwX4_init_0 : List UInt8 := [42, 183, 0, 3, 42, 8, 188, 10, 181, 0, 9, 42, 8, 188, 10, 181, 0, 15, 42, 8, 188, 10]
abbrev dktX4_init_0 : List UInt8 := dkwX4_init_0 ++ dktX4_init_1
theorem dksX4_init_0 : cX4_init.data.toList.drop 0 = dktX4_init_0 := by decide +kernel
theorem dksX4_init_1 : cX4_init.data.toList.drop 22 = dktX4_init_1 := dk_seg dksX4_init_0 22 rfl rfl
theorem dX4_init_0 : decode cX4_init 0 = .ok (.aload_n 0, 1) := dk_42 (dk_at dksX4_init_0 0 rfl rfl)
theorem dX4_init_1 : decode cX4_init 1 = .ok (.invokespecial 3, 3) := dk_183 0 3 (dk_at dksX4_init_0 1 rfl rfl)
theorem dX4_init_4 : decode cX4_init 4 = .ok (.aload_n 0, 1) := dk_42 (dk_at dksX4_init_0 4 rfl rfl)
theorem dX4_init_5 : decode cX4_init 5 = .ok (.iconst 5, 1) := dk_8 (dk_at dksX4_init_0 5 rfl rfl)
theorem dX4_init_6 : decode cX4_init 6 = .ok (.newarray .int, 2) := dk_188_10 (dk_at dksX4_init_0 6 rfl rfl)
theorem dX4_init_8 : decode cX4_init 8 = .ok (.putfield 9, 3) := dk_181 0 9 (dk_at dksX4_init_0 8 rfl rfl)
theorem dX4_init_11 : decode cX4_init 11 = .ok (.aload_n 0, 1) := dk_42 (dk_at dksX4_init_0 11 rfl rfl)
theorem dX4_init_12 : decode cX4_init 12 = .ok (.iconst 5, 1) := dk_8 (dk_at dksX4_init_0 12 rfl rfl)
theorem dX4_init_13 : decode cX4_init 13 = .ok (.newarray .int, 2) := dk_188_10 (dk_at dksX4_init_0 13 rfl rfl)
theorem dX4_init_15 : decode cX4_init 15 = .ok (.putfield 15, 3) := dk_181 0 15 (dk_at dksX4_init_0 15 rfl rfl)
theorem dX4_init_18 : decode cX4_init 18 = .ok (.aload_n 0, 1) := dk_42 (dk_at dksX4_init_0 18 rfl rfl)
theorem dX4_init_19 : decode cX4_init 19 = .ok (.iconst 5, 1) := dk_8 (dk_at dksX4_init_0 19 rfl rfl)
theorem dX4_init_20 : decode cX4_init 20 = .ok (.newarray .int, 2) := dk_188_10 (dk_at dksX4_init_0 20 rfl rfl)
theorem dX4_init_22 : decode cX4_init 22 = .ok (.putfield 18, 3) := dk_181 0 18 (dk_at dksX4_init_1 0 rfl rfl)
theorem dX4_init_25 : decode cX4_init 25 = .ok (.aload_n 0, 1) := dk_42 (dk_at dksX4_init_1 3 rfl rfl)
theorem dX4_init_26 : decode cX4_init 26 = .ok (.iconst 5, 1) := dk_8 (dk_at dksX4_init_1 4 rfl rfl)
theorem dX4_init_27 : decode cX4_init 27 = .ok (.newarray .int, 2) := dk_188_10 (dk_at dksX4_init_1 5 rfl rfl)
theorem dX4_init_29 : decode cX4_init 29 = .ok (.putfield 21, 3) := dk_181 0 21 (dk_at dksX4_init_1 7 rfl rfl)
theorem dX4_init_32 : decode cX4_init 32 = .ok (.return_, 1) := dk_177 (dk_at dksX4_init_1 10 rfl rfl)
abbrev cX4_clear : ByteArray := prog_11_method_2_code
def yX4_clear : MethodName := ⟨RX4, "clear", "()V"⟩
def dkwX4_clear_4 : List UInt8 := [3, 181, 0, 55, 42, 3, 181, 0, 58, 42, 9, 181, 0, 61, 42, 3, 181, 0, 65, 177]
abbrev dktX4_clear_4 : List UInt8 := dkwX4_clear_4 ++ []
def dkwX4_clear_3 : List UInt8 := [181, 0, 40, 42, 3, 181, 0, 43, 42, 3, 181, 0, 46, 42, 3, 181, 0, 49, 42, 3, 181, 0, 52, 42]
abbrev dktX4_clear_3 : List UInt8 := dkwX4_clear_3 ++ dktX4_clear_4
def dkwX4_clear_2 : List UInt8 := [42, 3, 181, 0, 28, 42, 3, 181, 0, 31, 42, 3, 181, 0, 34, 42, 3, 181, 0, 37, 42, 3]
abbrev dktX4_clear_2 : List UInt8 := dkwX4_clear_2 ++ dktX4_clear_3
def dkwX4_clear_1 : List UInt8 := [180, 0, 18, 27, 3, 79, 42, 180, 0, 21, 27, 3, 79, 132, 1, 1, 167, 255, 220, 42, 3, 181, 0, 24]
abbrev dktX4_clear_1 : List UInt8 := dkwX4_clear_1 ++ dktX4_clear_2
def dkwX4_clear_0 : List UInt8 := [3, 60, 27, 8, 162, 0, 37, 42, 180, 0, 9, 27, 3, 79, 42, 180, 0, 15, 27, 3, 79, 42]
abbrev dktX4_clear_0 : List UInt8 := dkwX4_clear_0 ++ dktX4_clear_1
theorem dksX4_clear_0 : cX4_clear.data.toList.drop 0 = dktX4_clear_0 := by decide +kernel
theorem dksX4_clear_1 : cX4_clear.data.toList.drop 22 = dktX4_clear_1 := dk_seg dksX4_clear_0 22 rfl rfl
theorem dksX4_clear_2 : cX4_clear.data.toList.drop 46 = dktX4_clear_2 := dk_seg dksX4_clear_1 24 rfl rfl
theorem dksX4_clear_3 : cX4_clear.data.toList.drop 68 = dktX4_clear_3 := dk_seg dksX4_clear_2 22 rfl rfl
theorem dksX4_clear_4 : cX4_clear.data.toList.drop 92 = dktX4_clear_4 := dk_seg dksX4_clear_3 24 rfl rfl
theorem dX4_clear_0 : decode cX4_clear 0 = .ok (.iconst 0, 1) := dk_3 (dk_at dksX4_clear_0 0 rfl rfl)
theorem dX4_clear_1 : decode cX4_clear 1 = .ok (.istore_n 1, 1) := dk_60 (dk_at dksX4_clear_0 1 rfl rfl)
theorem dX4_clear_2 : decode cX4_clear 2 = .ok (.iload_n 1, 1) := dk_27 (dk_at dksX4_clear_0 2 rfl rfl)
theorem dX4_clear_3 : decode cX4_clear 3 = .ok (.iconst 5, 1) := dk_8 (dk_at dksX4_clear_0 3 rfl rfl)
theorem dX4_clear_4 : decode cX4_clear 4 = .ok (.if_icmp .ge 37, 3) := dk_162 0 37 (dk_at dksX4_clear_0 4 rfl rfl)
theorem dX4_clear_7 : decode cX4_clear 7 = .ok (.aload_n 0, 1) := dk_42 (dk_at dksX4_clear_0 7 rfl rfl)
theorem dX4_clear_8 : decode cX4_clear 8 = .ok (.getfield 9, 3) := dk_180 0 9 (dk_at dksX4_clear_0 8 rfl rfl)
theorem dX4_clear_11 : decode cX4_clear 11 = .ok (.iload_n 1, 1) := dk_27 (dk_at dksX4_clear_0 11 rfl rfl)
theorem dX4_clear_12 : decode cX4_clear 12 = .ok (.iconst 0, 1) := dk_3 (dk_at dksX4_clear_0 12 rfl rfl)
theorem dX4_clear_13 : decode cX4_clear 13 = .ok (.iastore, 1) := dk_79 (dk_at dksX4_clear_0 13 rfl rfl)
theorem dX4_clear_14 : decode cX4_clear 14 = .ok (.aload_n 0, 1) := dk_42 (dk_at dksX4_clear_0 14 rfl rfl)
theorem dX4_clear_15 : decode cX4_clear 15 = .ok (.getfield 15, 3) := dk_180 0 15 (dk_at dksX4_clear_0 15 rfl rfl)
theorem dX4_clear_18 : decode cX4_clear 18 = .ok (.iload_n 1, 1) := dk_27 (dk_at dksX4_clear_0 18 rfl rfl)
theorem dX4_clear_19 : decode cX4_clear 19 = .ok (.iconst 0, 1) := dk_3 (dk_at dksX4_clear_0 19 rfl rfl)
theorem dX4_clear_20 : decode cX4_clear 20 = .ok (.iastore, 1) := dk_79 (dk_at dksX4_clear_0 20 rfl rfl)
theorem dX4_clear_21 : decode cX4_clear 21 = .ok (.aload_n 0, 1) := dk_42 (dk_at dksX4_clear_0 21 rfl rfl)
theorem dX4_clear_22 : decode cX4_clear 22 = .ok (.getfield 18, 3) := dk_180 0 18 (dk_at dksX4_clear_1 0 rfl rfl)
theorem dX4_clear_25 : decode cX4_clear 25 = .ok (.iload_n 1, 1) := dk_27 (dk_at dksX4_clear_1 3 rfl rfl)
theorem dX4_clear_26 : decode cX4_clear 26 = .ok (.iconst 0, 1) := dk_3 (dk_at dksX4_clear_1 4 rfl rfl)
theorem dX4_clear_27 : decode cX4_clear 27 = .ok (.iastore, 1) := dk_79 (dk_at dksX4_clear_1 5 rfl rfl)
theorem dX4_clear_28 : decode cX4_clear 28 = .ok (.aload_n 0, 1) := dk_42 (dk_at dksX4_clear_1 6 rfl rfl)
theorem dX4_clear_29 : decode cX4_clear 29 = .ok (.getfield 21, 3) := dk_180 0 21 (dk_at dksX4_clear_1 7 rfl rfl)
theorem dX4_clear_32 : decode cX4_clear 32 = .ok (.iload_n 1, 1) := dk_27 (dk_at dksX4_clear_1 10 rfl rfl)
theorem dX4_clear_33 : decode cX4_clear 33 = .ok (.iconst 0, 1) := dk_3 (dk_at dksX4_clear_1 11 rfl rfl)
theorem dX4_clear_34 : decode cX4_clear 34 = .ok (.iastore, 1) := dk_79 (dk_at dksX4_clear_1 12 rfl rfl)
theorem dX4_clear_35 : decode cX4_clear 35 = .ok (.iinc 1 1, 3) := dk_132 1 1 (dk_at dksX4_clear_1 13 rfl rfl)
theorem dX4_clear_38 : decode cX4_clear 38 = .ok (.goto (-36), 3) := dk_167 255 220 (dk_at dksX4_clear_1 16 rfl rfl)
theorem dX4_clear_41 : decode cX4_clear 41 = .ok (.aload_n 0, 1) := dk_42 (dk_at dksX4_clear_1 19 rfl rfl)
theorem dX4_clear_42 : decode cX4_clear 42 = .ok (.iconst 0, 1) := dk_3 (dk_at dksX4_clear_1 20 rfl rfl)
theorem dX4_clear_43 : decode cX4_clear 43 = .ok (.putfield 24, 3) := dk_181 0 24 (dk_at dksX4_clear_1 21 rfl rfl)
theorem dX4_clear_46 : decode cX4_clear 46 = .ok (.aload_n 0, 1) := dk_42 (dk_at dksX4_clear_2 0 rfl rfl)
theorem dX4_clear_47 : decode cX4_clear 47 = .ok (.iconst 0, 1) := dk_3 (dk_at dksX4_clear_2 1 rfl rfl)
theorem dX4_clear_48 : decode cX4_clear 48 = .ok (.putfield 28, 3) := dk_181 0 28 (dk_at dksX4_clear_2 2 rfl rfl)
theorem dX4_clear_51 : decode cX4_clear 51 = .ok (.aload_n 0, 1) := dk_42 (dk_at dksX4_clear_2 5 rfl rfl)
theorem dX4_clear_52 : decode cX4_clear 52 = .ok (.iconst 0, 1) := dk_3 (dk_at dksX4_clear_2 6 rfl rfl)
theorem dX4_clear_53 : decode cX4_clear 53 = .ok (.putfield 31, 3) := dk_181 0 31 (dk_at dksX4_clear_2 7 rfl rfl)
theorem dX4_clear_56 : decode cX4_clear 56 = .ok (.aload_n 0, 1) := dk_42 (dk_at dksX4_clear_2 10 rfl rfl)
theorem dX4_clear_57 : decode cX4_clear 57 = .ok (.iconst 0, 1) := dk_3 (dk_at dksX4_clear_2 11 rfl rfl)
theorem dX4_clear_58 : decode cX4_clear 58 = .ok (.putfield 34, 3) := dk_181 0 34 (dk_at dksX4_clear_2 12 rfl rfl)
theorem dX4_clear_61 : decode cX4_clear 61 = .ok (.aload_n 0, 1) := dk_42 (dk_at dksX4_clear_2 15 rfl rfl)
theorem dX4_clear_62 : decode cX4_clear 62 = .ok (.iconst 0, 1) := dk_3 (dk_at dksX4_clear_2 16 rfl rfl)
theorem dX4_clear_63 : decode cX4_clear 63 = .ok (.putfield 37, 3) := dk_181 0 37 (dk_at dksX4_clear_2 17 rfl rfl)
theorem dX4_clear_66 : decode cX4_clear 66 = .ok (.aload_n 0, 1) := dk_42 (dk_at dksX4_clear_2 20 rfl rfl)
theorem dX4_clear_67 : decode cX4_clear 67 = .ok (.iconst 0, 1) := dk_3 (dk_at dksX4_clear_2 21 rfl rfl)
theorem dX4_clear_68 : decode cX4_clear 68 = .ok (.putfield 40, 3) := dk_181 0 40 (dk_at dksX4_clear_3 0 rfl rfl)
theorem dX4_clear_71 : decode cX4_clear 71 = .ok (.aload_n 0, 1) := dk_42 (dk_at dksX4_clear_3 3 rfl rfl)
theorem dX4_clear_72 : decode cX4_clear 72 = .ok (.iconst 0, 1) := dk_3 (dk_at dksX4_clear_3 4 rfl rfl)
theorem dX4_clear_73 : decode cX4_clear 73 = .ok (.putfield 43, 3) := dk_181 0 43 (dk_at dksX4_clear_3 5 rfl rfl)
theorem dX4_clear_76 : decode cX4_clear 76 = .ok (.aload_n 0, 1) := dk_42 (dk_at dksX4_clear_3 8 rfl rfl)
theorem dX4_clear_77 : decode cX4_clear 77 = .ok (.iconst 0, 1) := dk_3 (dk_at dksX4_clear_3 9 rfl rfl)
theorem dX4_clear_78 : decode cX4_clear 78 = .ok (.putfield 46, 3) := dk_181 0 46 (dk_at dksX4_clear_3 10 rfl rfl)
theorem dX4_clear_81 : decode cX4_clear 81 = .ok (.aload_n 0, 1) := dk_42 (dk_at dksX4_clear_3 13 rfl rfl)
theorem dX4_clear_82 : decode cX4_clear 82 = .ok (.iconst 0, 1) := dk_3 (dk_at dksX4_clear_3 14 rfl rfl)
theorem dX4_clear_83 : decode cX4_clear 83 = .ok (.putfield 49, 3) := dk_181 0 49 (dk_at dksX4_clear_3 15 rfl rfl)
theorem dX4_clear_86 : decode cX4_clear 86 = .ok (.aload_n 0, 1) := dk_42 (dk_at dksX4_clear_3 18 rfl rfl)
theorem dX4_clear_87 : decode cX4_clear 87 = .ok (.iconst 0, 1) := dk_3 (dk_at dksX4_clear_3 19 rfl rfl)
theorem dX4_clear_88 : decode cX4_clear 88 = .ok (.putfield 52, 3) := dk_181 0 52 (dk_at dksX4_clear_3 20 rfl rfl)
theorem dX4_clear_91 : decode cX4_clear 91 = .ok (.aload_n 0, 1) := dk_42 (dk_at dksX4_clear_3 23 rfl rfl)
theorem dX4_clear_92 : decode cX4_clear 92 = .ok (.iconst 0, 1) := dk_3 (dk_at dksX4_clear_4 0 rfl rfl)
theorem dX4_clear_93 : decode cX4_clear 93 = .ok (.putfield 55, 3) := dk_181 0 55 (dk_at dksX4_clear_4 1 rfl rfl)
theorem dX4_clear_96 : decode cX4_clear 96 = .ok (.aload_n 0, 1) := dk_42 (dk_at dksX4_clear_4 4 rfl rfl)
theorem dX4_clear_97 : decode cX4_clear 97 = .ok (.iconst 0, 1) := dk_3 (dk_at dksX4_clear_4 5 rfl rfl)
theorem dX4_clear_98 : decode cX4_clear 98 = .ok (.putfield 58, 3) := dk_181 0 58 (dk_at dksX4_clear_4 6 rfl rfl)
theorem dX4_clear_101 : decode cX4_clear 101 = .ok (.aload_n 0, 1) := dk_42 (dk_at dksX4_clear_4 9 rfl rfl)
theorem dX4_clear_102 : decode cX4_clear 102 = .ok (.lconst 0, 1) := dk_9 (dk_at dksX4_clear_4 10 rfl rfl)
theorem dX4_clear_103 : decode cX4_clear 103 = .ok (.putfield 61, 3) := dk_181 0 61 (dk_at dksX4_clear_4 11 rfl rfl)
theorem dX4_clear_106 : decode cX4_clear 106 = .ok (.aload_n 0, 1) := dk_42 (dk_at dksX4_clear_4 14 rfl rfl)
theorem dX4_clear_107 : decode cX4_clear 107 = .ok (.iconst 0, 1) := dk_3 (dk_at dksX4_clear_4 15 rfl rfl)
theorem dX4_clear_108 : decode cX4_clear 108 = .ok (.putfield 65, 3) := dk_181 0 65 (dk_at dksX4_clear_4 16 rfl rfl)
theorem dX4_clear_111 : decode cX4_clear 111 = .ok (.return_, 1) := dk_177 (dk_at dksX4_clear_4 19 rfl rfl)
abbrev cX4_hour : ByteArray := prog_11_method_9_code
def yX4_hour : MethodName := ⟨RX4, "hour", "(LRoarMill$Works;LRoarMill$Settings;LRoarMill$Follows;)V"⟩
def dkwX4_hour_12 : List UInt8 := [180, 0, 43, 4, 96, 181, 0, 43, 177]
abbrev dktX4_hour_12 : List UInt8 := dkwX4_hour_12 ++ []
def dkwX4_hour_11 : List UInt8 := [43, 180, 0, 172, 112, 46, 133, 105, 97, 181, 0, 61, 42, 89, 180, 0, 37, 4, 96, 181, 0, 37, 42, 89]
abbrev dktX4_hour_11 : List UInt8 := dkwX4_hour_11 ++ dktX4_hour_12
def dkwX4_hour_10 : List UInt8 := [184, 0, 109, 181, 0, 55, 42, 89, 180, 0, 61, 42, 180, 0, 52, 133, 43, 180, 0, 169, 42, 180, 0, 43]
abbrev dktX4_hour_10 : List UInt8 := dkwX4_hour_10 ++ dktX4_hour_11
def dkwX4_hour_9 : List UInt8 := [181, 0, 34, 42, 3, 43, 180, 0, 166, 43, 180, 0, 166, 42, 180, 0, 46, 104, 43, 180, 0, 103, 108, 100]
abbrev dktX4_hour_9 : List UInt8 := dkwX4_hour_9 ++ dktX4_hour_10
def dkwX4_hour_8 : List UInt8 := [42, 89, 180, 0, 31, 21, 5, 96, 181, 0, 31, 42, 89, 180, 0, 34, 43, 180, 0, 163, 21, 5, 100, 96]
abbrev dktX4_hour_8 : List UInt8 := dkwX4_hour_8 ++ dktX4_hour_9
def dkwX4_hour_7 : List UInt8 := [43, 180, 0, 163, 42, 180, 0, 24, 184, 0, 97, 54, 5, 42, 89, 180, 0, 24, 21, 5, 100, 181, 0, 24]
abbrev dktX4_hour_7 : List UInt8 := dkwX4_hour_7 ++ dktX4_hour_8
def dkwX4_hour_6 : List UInt8 := [54, 4, 42, 89, 180, 0, 24, 21, 4, 100, 181, 0, 24, 42, 89, 180, 0, 28, 21, 4, 96, 181, 0, 28]
abbrev dktX4_hour_6 : List UInt8 := dkwX4_hour_6 ++ dktX4_hour_7
def dkwX4_hour_5 : List UInt8 := [43, 182, 0, 154, 42, 43, 44, 182, 0, 157, 3, 42, 180, 0, 24, 43, 180, 0, 160, 100, 184, 0, 109]
abbrev dktX4_hour_5 : List UInt8 := dkwX4_hour_5 ++ dktX4_hour_6
def dkwX4_hour_4 : List UInt8 := [180, 0, 40, 185, 0, 144, 6, 0, 42, 180, 0, 65, 153, 0, 11, 42, 43, 182, 0, 150, 167, 0, 14, 42]
abbrev dktX4_hour_4 : List UInt8 := dkwX4_hour_4 ++ dktX4_hour_5
def dkwX4_hour_3 : List UInt8 := [181, 0, 52, 45, 198, 0, 26, 45, 43, 42, 180, 0, 65, 42, 180, 0, 49, 44, 180, 0, 127, 42]
abbrev dktX4_hour_3 : List UInt8 := dkwX4_hour_3 ++ dktX4_hour_4
def dkwX4_hour_2 : List UInt8 := [42, 42, 180, 0, 65, 153, 0, 7, 3, 167, 0, 15, 42, 180, 0, 46, 42, 180, 0, 49, 104, 16, 100, 108]
abbrev dktX4_hour_2 : List UInt8 := dkwX4_hour_2 ++ dktX4_hour_3
def dkwX4_hour_1 : List UInt8 := [181, 0, 65, 42, 42, 180, 0, 65, 153, 0, 7, 3, 167, 0, 9, 42, 43, 44, 182, 0, 140, 181, 0, 49]
abbrev dktX4_hour_1 : List UInt8 := dkwX4_hour_1 ++ dktX4_hour_2
def dkwX4_hour_0 : List UInt8 := [42, 43, 44, 182, 0, 136, 42, 42, 180, 0, 46, 43, 180, 0, 103, 164, 0, 7, 4, 167, 0, 4, 3]
abbrev dktX4_hour_0 : List UInt8 := dkwX4_hour_0 ++ dktX4_hour_1
theorem dksX4_hour_0 : cX4_hour.data.toList.drop 0 = dktX4_hour_0 := by decide +kernel
theorem dksX4_hour_1 : cX4_hour.data.toList.drop 23 = dktX4_hour_1 := dk_seg dksX4_hour_0 23 rfl rfl
theorem dksX4_hour_2 : cX4_hour.data.toList.drop 47 = dktX4_hour_2 := dk_seg dksX4_hour_1 24 rfl rfl
theorem dksX4_hour_3 : cX4_hour.data.toList.drop 71 = dktX4_hour_3 := dk_seg dksX4_hour_2 24 rfl rfl
theorem dksX4_hour_4 : cX4_hour.data.toList.drop 93 = dktX4_hour_4 := dk_seg dksX4_hour_3 22 rfl rfl
theorem dksX4_hour_5 : cX4_hour.data.toList.drop 117 = dktX4_hour_5 := dk_seg dksX4_hour_4 24 rfl rfl
theorem dksX4_hour_6 : cX4_hour.data.toList.drop 140 = dktX4_hour_6 := dk_seg dksX4_hour_5 23 rfl rfl
theorem dksX4_hour_7 : cX4_hour.data.toList.drop 164 = dktX4_hour_7 := dk_seg dksX4_hour_6 24 rfl rfl
theorem dksX4_hour_8 : cX4_hour.data.toList.drop 188 = dktX4_hour_8 := dk_seg dksX4_hour_7 24 rfl rfl
theorem dksX4_hour_9 : cX4_hour.data.toList.drop 212 = dktX4_hour_9 := dk_seg dksX4_hour_8 24 rfl rfl
theorem dksX4_hour_10 : cX4_hour.data.toList.drop 236 = dktX4_hour_10 := dk_seg dksX4_hour_9 24 rfl rfl
theorem dksX4_hour_11 : cX4_hour.data.toList.drop 260 = dktX4_hour_11 := dk_seg dksX4_hour_10 24 rfl rfl
theorem dksX4_hour_12 : cX4_hour.data.toList.drop 284 = dktX4_hour_12 := dk_seg dksX4_hour_11 24 rfl rfl
theorem dX4_hour_0 : decode cX4_hour 0 = .ok (.aload_n 0, 1) := dk_42 (dk_at dksX4_hour_0 0 rfl rfl)
theorem dX4_hour_1 : decode cX4_hour 1 = .ok (.aload_n 1, 1) := dk_43 (dk_at dksX4_hour_0 1 rfl rfl)
theorem dX4_hour_2 : decode cX4_hour 2 = .ok (.aload_n 2, 1) := dk_44 (dk_at dksX4_hour_0 2 rfl rfl)
theorem dX4_hour_3 : decode cX4_hour 3 = .ok (.invokevirtual 136, 3) := dk_182 0 136 (dk_at dksX4_hour_0 3 rfl rfl)
theorem dX4_hour_6 : decode cX4_hour 6 = .ok (.aload_n 0, 1) := dk_42 (dk_at dksX4_hour_0 6 rfl rfl)
theorem dX4_hour_7 : decode cX4_hour 7 = .ok (.aload_n 0, 1) := dk_42 (dk_at dksX4_hour_0 7 rfl rfl)
theorem dX4_hour_8 : decode cX4_hour 8 = .ok (.getfield 46, 3) := dk_180 0 46 (dk_at dksX4_hour_0 8 rfl rfl)
theorem dX4_hour_11 : decode cX4_hour 11 = .ok (.aload_n 1, 1) := dk_43 (dk_at dksX4_hour_0 11 rfl rfl)
theorem dX4_hour_12 : decode cX4_hour 12 = .ok (.getfield 103, 3) := dk_180 0 103 (dk_at dksX4_hour_0 12 rfl rfl)
theorem dX4_hour_15 : decode cX4_hour 15 = .ok (.if_icmp .le 7, 3) := dk_164 0 7 (dk_at dksX4_hour_0 15 rfl rfl)
theorem dX4_hour_18 : decode cX4_hour 18 = .ok (.iconst 1, 1) := dk_4 (dk_at dksX4_hour_0 18 rfl rfl)
theorem dX4_hour_19 : decode cX4_hour 19 = .ok (.goto 4, 3) := dk_167 0 4 (dk_at dksX4_hour_0 19 rfl rfl)
theorem dX4_hour_22 : decode cX4_hour 22 = .ok (.iconst 0, 1) := dk_3 (dk_at dksX4_hour_0 22 rfl rfl)
theorem dX4_hour_23 : decode cX4_hour 23 = .ok (.putfield 65, 3) := dk_181 0 65 (dk_at dksX4_hour_1 0 rfl rfl)
theorem dX4_hour_26 : decode cX4_hour 26 = .ok (.aload_n 0, 1) := dk_42 (dk_at dksX4_hour_1 3 rfl rfl)
theorem dX4_hour_27 : decode cX4_hour 27 = .ok (.aload_n 0, 1) := dk_42 (dk_at dksX4_hour_1 4 rfl rfl)
theorem dX4_hour_28 : decode cX4_hour 28 = .ok (.getfield 65, 3) := dk_180 0 65 (dk_at dksX4_hour_1 5 rfl rfl)
theorem dX4_hour_31 : decode cX4_hour 31 = .ok (.ifCond .eq 7, 3) := dk_153 0 7 (dk_at dksX4_hour_1 8 rfl rfl)
theorem dX4_hour_34 : decode cX4_hour 34 = .ok (.iconst 0, 1) := dk_3 (dk_at dksX4_hour_1 11 rfl rfl)
theorem dX4_hour_35 : decode cX4_hour 35 = .ok (.goto 9, 3) := dk_167 0 9 (dk_at dksX4_hour_1 12 rfl rfl)
theorem dX4_hour_38 : decode cX4_hour 38 = .ok (.aload_n 0, 1) := dk_42 (dk_at dksX4_hour_1 15 rfl rfl)
theorem dX4_hour_39 : decode cX4_hour 39 = .ok (.aload_n 1, 1) := dk_43 (dk_at dksX4_hour_1 16 rfl rfl)
theorem dX4_hour_40 : decode cX4_hour 40 = .ok (.aload_n 2, 1) := dk_44 (dk_at dksX4_hour_1 17 rfl rfl)
theorem dX4_hour_41 : decode cX4_hour 41 = .ok (.invokevirtual 140, 3) := dk_182 0 140 (dk_at dksX4_hour_1 18 rfl rfl)
theorem dX4_hour_44 : decode cX4_hour 44 = .ok (.putfield 49, 3) := dk_181 0 49 (dk_at dksX4_hour_1 21 rfl rfl)
theorem dX4_hour_47 : decode cX4_hour 47 = .ok (.aload_n 0, 1) := dk_42 (dk_at dksX4_hour_2 0 rfl rfl)
theorem dX4_hour_48 : decode cX4_hour 48 = .ok (.aload_n 0, 1) := dk_42 (dk_at dksX4_hour_2 1 rfl rfl)
theorem dX4_hour_49 : decode cX4_hour 49 = .ok (.getfield 65, 3) := dk_180 0 65 (dk_at dksX4_hour_2 2 rfl rfl)
theorem dX4_hour_52 : decode cX4_hour 52 = .ok (.ifCond .eq 7, 3) := dk_153 0 7 (dk_at dksX4_hour_2 5 rfl rfl)
theorem dX4_hour_55 : decode cX4_hour 55 = .ok (.iconst 0, 1) := dk_3 (dk_at dksX4_hour_2 8 rfl rfl)
theorem dX4_hour_56 : decode cX4_hour 56 = .ok (.goto 15, 3) := dk_167 0 15 (dk_at dksX4_hour_2 9 rfl rfl)
theorem dX4_hour_59 : decode cX4_hour 59 = .ok (.aload_n 0, 1) := dk_42 (dk_at dksX4_hour_2 12 rfl rfl)
theorem dX4_hour_60 : decode cX4_hour 60 = .ok (.getfield 46, 3) := dk_180 0 46 (dk_at dksX4_hour_2 13 rfl rfl)
theorem dX4_hour_63 : decode cX4_hour 63 = .ok (.aload_n 0, 1) := dk_42 (dk_at dksX4_hour_2 16 rfl rfl)
theorem dX4_hour_64 : decode cX4_hour 64 = .ok (.getfield 49, 3) := dk_180 0 49 (dk_at dksX4_hour_2 17 rfl rfl)
theorem dX4_hour_67 : decode cX4_hour 67 = .ok (.imul, 1) := dk_104 (dk_at dksX4_hour_2 20 rfl rfl)
theorem dX4_hour_68 : decode cX4_hour 68 = .ok (.bipush 100, 2) := dk_16 100 (dk_at dksX4_hour_2 21 rfl rfl)
theorem dX4_hour_70 : decode cX4_hour 70 = .ok (.idiv, 1) := dk_108 (dk_at dksX4_hour_2 23 rfl rfl)
theorem dX4_hour_71 : decode cX4_hour 71 = .ok (.putfield 52, 3) := dk_181 0 52 (dk_at dksX4_hour_3 0 rfl rfl)
theorem dX4_hour_74 : decode cX4_hour 74 = .ok (.aload_n 3, 1) := dk_45 (dk_at dksX4_hour_3 3 rfl rfl)
theorem dX4_hour_75 : decode cX4_hour 75 = .ok (.ifnull 26, 3) := dk_198 0 26 (dk_at dksX4_hour_3 4 rfl rfl)
theorem dX4_hour_78 : decode cX4_hour 78 = .ok (.aload_n 3, 1) := dk_45 (dk_at dksX4_hour_3 7 rfl rfl)
theorem dX4_hour_79 : decode cX4_hour 79 = .ok (.aload_n 1, 1) := dk_43 (dk_at dksX4_hour_3 8 rfl rfl)
theorem dX4_hour_80 : decode cX4_hour 80 = .ok (.aload_n 0, 1) := dk_42 (dk_at dksX4_hour_3 9 rfl rfl)
theorem dX4_hour_81 : decode cX4_hour 81 = .ok (.getfield 65, 3) := dk_180 0 65 (dk_at dksX4_hour_3 10 rfl rfl)
theorem dX4_hour_84 : decode cX4_hour 84 = .ok (.aload_n 0, 1) := dk_42 (dk_at dksX4_hour_3 13 rfl rfl)
theorem dX4_hour_85 : decode cX4_hour 85 = .ok (.getfield 49, 3) := dk_180 0 49 (dk_at dksX4_hour_3 14 rfl rfl)
theorem dX4_hour_88 : decode cX4_hour 88 = .ok (.aload_n 2, 1) := dk_44 (dk_at dksX4_hour_3 17 rfl rfl)
theorem dX4_hour_89 : decode cX4_hour 89 = .ok (.getfield 127, 3) := dk_180 0 127 (dk_at dksX4_hour_3 18 rfl rfl)
theorem dX4_hour_92 : decode cX4_hour 92 = .ok (.aload_n 0, 1) := dk_42 (dk_at dksX4_hour_3 21 rfl rfl)
theorem dX4_hour_93 : decode cX4_hour 93 = .ok (.getfield 40, 3) := dk_180 0 40 (dk_at dksX4_hour_4 0 rfl rfl)
theorem dX4_hour_96 : decode cX4_hour 96 = .ok (.invokeinterface 144 6, 5) := by decide +kernel
theorem dX4_hour_101 : decode cX4_hour 101 = .ok (.aload_n 0, 1) := dk_42 (dk_at dksX4_hour_4 8 rfl rfl)
theorem dX4_hour_102 : decode cX4_hour 102 = .ok (.getfield 65, 3) := dk_180 0 65 (dk_at dksX4_hour_4 9 rfl rfl)
theorem dX4_hour_105 : decode cX4_hour 105 = .ok (.ifCond .eq 11, 3) := dk_153 0 11 (dk_at dksX4_hour_4 12 rfl rfl)
theorem dX4_hour_108 : decode cX4_hour 108 = .ok (.aload_n 0, 1) := dk_42 (dk_at dksX4_hour_4 15 rfl rfl)
theorem dX4_hour_109 : decode cX4_hour 109 = .ok (.aload_n 1, 1) := dk_43 (dk_at dksX4_hour_4 16 rfl rfl)
theorem dX4_hour_110 : decode cX4_hour 110 = .ok (.invokevirtual 150, 3) := dk_182 0 150 (dk_at dksX4_hour_4 17 rfl rfl)
theorem dX4_hour_113 : decode cX4_hour 113 = .ok (.goto 14, 3) := dk_167 0 14 (dk_at dksX4_hour_4 20 rfl rfl)
theorem dX4_hour_116 : decode cX4_hour 116 = .ok (.aload_n 0, 1) := dk_42 (dk_at dksX4_hour_4 23 rfl rfl)
theorem dX4_hour_117 : decode cX4_hour 117 = .ok (.aload_n 1, 1) := dk_43 (dk_at dksX4_hour_5 0 rfl rfl)
theorem dX4_hour_118 : decode cX4_hour 118 = .ok (.invokevirtual 154, 3) := dk_182 0 154 (dk_at dksX4_hour_5 1 rfl rfl)
theorem dX4_hour_121 : decode cX4_hour 121 = .ok (.aload_n 0, 1) := dk_42 (dk_at dksX4_hour_5 4 rfl rfl)
theorem dX4_hour_122 : decode cX4_hour 122 = .ok (.aload_n 1, 1) := dk_43 (dk_at dksX4_hour_5 5 rfl rfl)
theorem dX4_hour_123 : decode cX4_hour 123 = .ok (.aload_n 2, 1) := dk_44 (dk_at dksX4_hour_5 6 rfl rfl)
theorem dX4_hour_124 : decode cX4_hour 124 = .ok (.invokevirtual 157, 3) := dk_182 0 157 (dk_at dksX4_hour_5 7 rfl rfl)
theorem dX4_hour_127 : decode cX4_hour 127 = .ok (.iconst 0, 1) := dk_3 (dk_at dksX4_hour_5 10 rfl rfl)
theorem dX4_hour_128 : decode cX4_hour 128 = .ok (.aload_n 0, 1) := dk_42 (dk_at dksX4_hour_5 11 rfl rfl)
theorem dX4_hour_129 : decode cX4_hour 129 = .ok (.getfield 24, 3) := dk_180 0 24 (dk_at dksX4_hour_5 12 rfl rfl)
theorem dX4_hour_132 : decode cX4_hour 132 = .ok (.aload_n 1, 1) := dk_43 (dk_at dksX4_hour_5 15 rfl rfl)
theorem dX4_hour_133 : decode cX4_hour 133 = .ok (.getfield 160, 3) := dk_180 0 160 (dk_at dksX4_hour_5 16 rfl rfl)
theorem dX4_hour_136 : decode cX4_hour 136 = .ok (.isub, 1) := dk_100 (dk_at dksX4_hour_5 19 rfl rfl)
theorem dX4_hour_137 : decode cX4_hour 137 = .ok (.invokestatic 109, 3) := dk_184 0 109 (dk_at dksX4_hour_5 20 rfl rfl)
theorem dX4_hour_140 : decode cX4_hour 140 = .ok (.istore 4, 2) := dk_54 4 (dk_at dksX4_hour_6 0 rfl rfl)
theorem dX4_hour_142 : decode cX4_hour 142 = .ok (.aload_n 0, 1) := dk_42 (dk_at dksX4_hour_6 2 rfl rfl)
theorem dX4_hour_143 : decode cX4_hour 143 = .ok (.dup, 1) := dk_89 (dk_at dksX4_hour_6 3 rfl rfl)
theorem dX4_hour_144 : decode cX4_hour 144 = .ok (.getfield 24, 3) := dk_180 0 24 (dk_at dksX4_hour_6 4 rfl rfl)
theorem dX4_hour_147 : decode cX4_hour 147 = .ok (.iload 4, 2) := dk_21 4 (dk_at dksX4_hour_6 7 rfl rfl)
theorem dX4_hour_149 : decode cX4_hour 149 = .ok (.isub, 1) := dk_100 (dk_at dksX4_hour_6 9 rfl rfl)
theorem dX4_hour_150 : decode cX4_hour 150 = .ok (.putfield 24, 3) := dk_181 0 24 (dk_at dksX4_hour_6 10 rfl rfl)
theorem dX4_hour_153 : decode cX4_hour 153 = .ok (.aload_n 0, 1) := dk_42 (dk_at dksX4_hour_6 13 rfl rfl)
theorem dX4_hour_154 : decode cX4_hour 154 = .ok (.dup, 1) := dk_89 (dk_at dksX4_hour_6 14 rfl rfl)
theorem dX4_hour_155 : decode cX4_hour 155 = .ok (.getfield 28, 3) := dk_180 0 28 (dk_at dksX4_hour_6 15 rfl rfl)
theorem dX4_hour_158 : decode cX4_hour 158 = .ok (.iload 4, 2) := dk_21 4 (dk_at dksX4_hour_6 18 rfl rfl)
theorem dX4_hour_160 : decode cX4_hour 160 = .ok (.iadd, 1) := dk_96 (dk_at dksX4_hour_6 20 rfl rfl)
theorem dX4_hour_161 : decode cX4_hour 161 = .ok (.putfield 28, 3) := dk_181 0 28 (dk_at dksX4_hour_6 21 rfl rfl)
theorem dX4_hour_164 : decode cX4_hour 164 = .ok (.aload_n 1, 1) := dk_43 (dk_at dksX4_hour_7 0 rfl rfl)
theorem dX4_hour_165 : decode cX4_hour 165 = .ok (.getfield 163, 3) := dk_180 0 163 (dk_at dksX4_hour_7 1 rfl rfl)
theorem dX4_hour_168 : decode cX4_hour 168 = .ok (.aload_n 0, 1) := dk_42 (dk_at dksX4_hour_7 4 rfl rfl)
theorem dX4_hour_169 : decode cX4_hour 169 = .ok (.getfield 24, 3) := dk_180 0 24 (dk_at dksX4_hour_7 5 rfl rfl)
theorem dX4_hour_172 : decode cX4_hour 172 = .ok (.invokestatic 97, 3) := dk_184 0 97 (dk_at dksX4_hour_7 8 rfl rfl)
theorem dX4_hour_175 : decode cX4_hour 175 = .ok (.istore 5, 2) := dk_54 5 (dk_at dksX4_hour_7 11 rfl rfl)
theorem dX4_hour_177 : decode cX4_hour 177 = .ok (.aload_n 0, 1) := dk_42 (dk_at dksX4_hour_7 13 rfl rfl)
theorem dX4_hour_178 : decode cX4_hour 178 = .ok (.dup, 1) := dk_89 (dk_at dksX4_hour_7 14 rfl rfl)
theorem dX4_hour_179 : decode cX4_hour 179 = .ok (.getfield 24, 3) := dk_180 0 24 (dk_at dksX4_hour_7 15 rfl rfl)
theorem dX4_hour_182 : decode cX4_hour 182 = .ok (.iload 5, 2) := dk_21 5 (dk_at dksX4_hour_7 18 rfl rfl)
theorem dX4_hour_184 : decode cX4_hour 184 = .ok (.isub, 1) := dk_100 (dk_at dksX4_hour_7 20 rfl rfl)
theorem dX4_hour_185 : decode cX4_hour 185 = .ok (.putfield 24, 3) := dk_181 0 24 (dk_at dksX4_hour_7 21 rfl rfl)
theorem dX4_hour_188 : decode cX4_hour 188 = .ok (.aload_n 0, 1) := dk_42 (dk_at dksX4_hour_8 0 rfl rfl)
theorem dX4_hour_189 : decode cX4_hour 189 = .ok (.dup, 1) := dk_89 (dk_at dksX4_hour_8 1 rfl rfl)
theorem dX4_hour_190 : decode cX4_hour 190 = .ok (.getfield 31, 3) := dk_180 0 31 (dk_at dksX4_hour_8 2 rfl rfl)
theorem dX4_hour_193 : decode cX4_hour 193 = .ok (.iload 5, 2) := dk_21 5 (dk_at dksX4_hour_8 5 rfl rfl)
theorem dX4_hour_195 : decode cX4_hour 195 = .ok (.iadd, 1) := dk_96 (dk_at dksX4_hour_8 7 rfl rfl)
theorem dX4_hour_196 : decode cX4_hour 196 = .ok (.putfield 31, 3) := dk_181 0 31 (dk_at dksX4_hour_8 8 rfl rfl)
theorem dX4_hour_199 : decode cX4_hour 199 = .ok (.aload_n 0, 1) := dk_42 (dk_at dksX4_hour_8 11 rfl rfl)
theorem dX4_hour_200 : decode cX4_hour 200 = .ok (.dup, 1) := dk_89 (dk_at dksX4_hour_8 12 rfl rfl)
theorem dX4_hour_201 : decode cX4_hour 201 = .ok (.getfield 34, 3) := dk_180 0 34 (dk_at dksX4_hour_8 13 rfl rfl)
theorem dX4_hour_204 : decode cX4_hour 204 = .ok (.aload_n 1, 1) := dk_43 (dk_at dksX4_hour_8 16 rfl rfl)
theorem dX4_hour_205 : decode cX4_hour 205 = .ok (.getfield 163, 3) := dk_180 0 163 (dk_at dksX4_hour_8 17 rfl rfl)
theorem dX4_hour_208 : decode cX4_hour 208 = .ok (.iload 5, 2) := dk_21 5 (dk_at dksX4_hour_8 20 rfl rfl)
theorem dX4_hour_210 : decode cX4_hour 210 = .ok (.isub, 1) := dk_100 (dk_at dksX4_hour_8 22 rfl rfl)
theorem dX4_hour_211 : decode cX4_hour 211 = .ok (.iadd, 1) := dk_96 (dk_at dksX4_hour_8 23 rfl rfl)
theorem dX4_hour_212 : decode cX4_hour 212 = .ok (.putfield 34, 3) := dk_181 0 34 (dk_at dksX4_hour_9 0 rfl rfl)
theorem dX4_hour_215 : decode cX4_hour 215 = .ok (.aload_n 0, 1) := dk_42 (dk_at dksX4_hour_9 3 rfl rfl)
theorem dX4_hour_216 : decode cX4_hour 216 = .ok (.iconst 0, 1) := dk_3 (dk_at dksX4_hour_9 4 rfl rfl)
theorem dX4_hour_217 : decode cX4_hour 217 = .ok (.aload_n 1, 1) := dk_43 (dk_at dksX4_hour_9 5 rfl rfl)
theorem dX4_hour_218 : decode cX4_hour 218 = .ok (.getfield 166, 3) := dk_180 0 166 (dk_at dksX4_hour_9 6 rfl rfl)
theorem dX4_hour_221 : decode cX4_hour 221 = .ok (.aload_n 1, 1) := dk_43 (dk_at dksX4_hour_9 9 rfl rfl)
theorem dX4_hour_222 : decode cX4_hour 222 = .ok (.getfield 166, 3) := dk_180 0 166 (dk_at dksX4_hour_9 10 rfl rfl)
theorem dX4_hour_225 : decode cX4_hour 225 = .ok (.aload_n 0, 1) := dk_42 (dk_at dksX4_hour_9 13 rfl rfl)
theorem dX4_hour_226 : decode cX4_hour 226 = .ok (.getfield 46, 3) := dk_180 0 46 (dk_at dksX4_hour_9 14 rfl rfl)
theorem dX4_hour_229 : decode cX4_hour 229 = .ok (.imul, 1) := dk_104 (dk_at dksX4_hour_9 17 rfl rfl)
theorem dX4_hour_230 : decode cX4_hour 230 = .ok (.aload_n 1, 1) := dk_43 (dk_at dksX4_hour_9 18 rfl rfl)
theorem dX4_hour_231 : decode cX4_hour 231 = .ok (.getfield 103, 3) := dk_180 0 103 (dk_at dksX4_hour_9 19 rfl rfl)
theorem dX4_hour_234 : decode cX4_hour 234 = .ok (.idiv, 1) := dk_108 (dk_at dksX4_hour_9 22 rfl rfl)
theorem dX4_hour_235 : decode cX4_hour 235 = .ok (.isub, 1) := dk_100 (dk_at dksX4_hour_9 23 rfl rfl)
theorem dX4_hour_236 : decode cX4_hour 236 = .ok (.invokestatic 109, 3) := dk_184 0 109 (dk_at dksX4_hour_10 0 rfl rfl)
theorem dX4_hour_239 : decode cX4_hour 239 = .ok (.putfield 55, 3) := dk_181 0 55 (dk_at dksX4_hour_10 3 rfl rfl)
theorem dX4_hour_242 : decode cX4_hour 242 = .ok (.aload_n 0, 1) := dk_42 (dk_at dksX4_hour_10 6 rfl rfl)
theorem dX4_hour_243 : decode cX4_hour 243 = .ok (.dup, 1) := dk_89 (dk_at dksX4_hour_10 7 rfl rfl)
theorem dX4_hour_244 : decode cX4_hour 244 = .ok (.getfield 61, 3) := dk_180 0 61 (dk_at dksX4_hour_10 8 rfl rfl)
theorem dX4_hour_247 : decode cX4_hour 247 = .ok (.aload_n 0, 1) := dk_42 (dk_at dksX4_hour_10 11 rfl rfl)
theorem dX4_hour_248 : decode cX4_hour 248 = .ok (.getfield 52, 3) := dk_180 0 52 (dk_at dksX4_hour_10 12 rfl rfl)
theorem dX4_hour_251 : decode cX4_hour 251 = .ok (.i2l, 1) := dk_133 (dk_at dksX4_hour_10 15 rfl rfl)
theorem dX4_hour_252 : decode cX4_hour 252 = .ok (.aload_n 1, 1) := dk_43 (dk_at dksX4_hour_10 16 rfl rfl)
theorem dX4_hour_253 : decode cX4_hour 253 = .ok (.getfield 169, 3) := dk_180 0 169 (dk_at dksX4_hour_10 17 rfl rfl)
theorem dX4_hour_256 : decode cX4_hour 256 = .ok (.aload_n 0, 1) := dk_42 (dk_at dksX4_hour_10 20 rfl rfl)
theorem dX4_hour_257 : decode cX4_hour 257 = .ok (.getfield 43, 3) := dk_180 0 43 (dk_at dksX4_hour_10 21 rfl rfl)
theorem dX4_hour_260 : decode cX4_hour 260 = .ok (.aload_n 1, 1) := dk_43 (dk_at dksX4_hour_11 0 rfl rfl)
theorem dX4_hour_261 : decode cX4_hour 261 = .ok (.getfield 172, 3) := dk_180 0 172 (dk_at dksX4_hour_11 1 rfl rfl)
theorem dX4_hour_264 : decode cX4_hour 264 = .ok (.irem, 1) := dk_112 (dk_at dksX4_hour_11 4 rfl rfl)
theorem dX4_hour_265 : decode cX4_hour 265 = .ok (.iaload, 1) := dk_46 (dk_at dksX4_hour_11 5 rfl rfl)
theorem dX4_hour_266 : decode cX4_hour 266 = .ok (.i2l, 1) := dk_133 (dk_at dksX4_hour_11 6 rfl rfl)
theorem dX4_hour_267 : decode cX4_hour 267 = .ok (.lmul, 1) := dk_105 (dk_at dksX4_hour_11 7 rfl rfl)
theorem dX4_hour_268 : decode cX4_hour 268 = .ok (.ladd, 1) := dk_97 (dk_at dksX4_hour_11 8 rfl rfl)
theorem dX4_hour_269 : decode cX4_hour 269 = .ok (.putfield 61, 3) := dk_181 0 61 (dk_at dksX4_hour_11 9 rfl rfl)
theorem dX4_hour_272 : decode cX4_hour 272 = .ok (.aload_n 0, 1) := dk_42 (dk_at dksX4_hour_11 12 rfl rfl)
theorem dX4_hour_273 : decode cX4_hour 273 = .ok (.dup, 1) := dk_89 (dk_at dksX4_hour_11 13 rfl rfl)
theorem dX4_hour_274 : decode cX4_hour 274 = .ok (.getfield 37, 3) := dk_180 0 37 (dk_at dksX4_hour_11 14 rfl rfl)
theorem dX4_hour_277 : decode cX4_hour 277 = .ok (.iconst 1, 1) := dk_4 (dk_at dksX4_hour_11 17 rfl rfl)
theorem dX4_hour_278 : decode cX4_hour 278 = .ok (.iadd, 1) := dk_96 (dk_at dksX4_hour_11 18 rfl rfl)
theorem dX4_hour_279 : decode cX4_hour 279 = .ok (.putfield 37, 3) := dk_181 0 37 (dk_at dksX4_hour_11 19 rfl rfl)
theorem dX4_hour_282 : decode cX4_hour 282 = .ok (.aload_n 0, 1) := dk_42 (dk_at dksX4_hour_11 22 rfl rfl)
theorem dX4_hour_283 : decode cX4_hour 283 = .ok (.dup, 1) := dk_89 (dk_at dksX4_hour_11 23 rfl rfl)
theorem dX4_hour_284 : decode cX4_hour 284 = .ok (.getfield 43, 3) := dk_180 0 43 (dk_at dksX4_hour_12 0 rfl rfl)
theorem dX4_hour_287 : decode cX4_hour 287 = .ok (.iconst 1, 1) := dk_4 (dk_at dksX4_hour_12 3 rfl rfl)
theorem dX4_hour_288 : decode cX4_hour 288 = .ok (.iadd, 1) := dk_96 (dk_at dksX4_hour_12 4 rfl rfl)
theorem dX4_hour_289 : decode cX4_hour 289 = .ok (.putfield 43, 3) := dk_181 0 43 (dk_at dksX4_hour_12 5 rfl rfl)
theorem dX4_hour_292 : decode cX4_hour 292 = .ok (.return_, 1) := dk_177 (dk_at dksX4_hour_12 8 rfl rfl)
abbrev cX4_comes : ByteArray := prog_11_method_4_code
def yX4_comes : MethodName := ⟨RX4, "comes", "(LRoarMill$Works;LRoarMill$Settings;)V"⟩
def dkwX4_comes_5 : List UInt8 := [167, 255, 156, 177]
abbrev dktX4_comes_5 : List UInt8 := dkwX4_comes_5 ++ []
def dkwX4_comes_4 : List UInt8 := [21, 4, 3, 79, 42, 89, 180, 0, 46, 42, 180, 0, 9, 21, 4, 46, 96, 181, 0, 46, 132, 4, 1]
abbrev dktX4_comes_4 : List UInt8 := dkwX4_comes_4 ++ dktX4_comes_5
def dkwX4_comes_3 : List UInt8 := [21, 5, 42, 180, 0, 15, 21, 4, 46, 96, 96, 79, 42, 180, 0, 15, 21, 4, 3, 79, 42, 180, 0, 18]
abbrev dktX4_comes_3 : List UInt8 := dkwX4_comes_3 ++ dktX4_comes_4
def dkwX4_comes_2 : List UInt8 := [46, 104, 54, 5, 42, 89, 180, 0, 58, 21, 5, 96, 181, 0, 58, 42, 180, 0, 9, 21, 4, 92, 46]
abbrev dktX4_comes_2 : List UInt8 := dkwX4_comes_2 ++ dktX4_comes_3
def dkwX4_comes_1 : List UInt8 := [162, 0, 97, 42, 180, 0, 65, 153, 0, 7, 3, 167, 0, 15, 44, 180, 0, 89, 45, 180, 0, 92, 21, 4]
abbrev dktX4_comes_1 : List UInt8 := dkwX4_comes_1 ++ dktX4_comes_2
def dkwX4_comes_0 : List UInt8 := [43, 180, 0, 75, 44, 180, 0, 81, 50, 78, 42, 3, 181, 0, 46, 3, 54, 4, 21, 4, 43, 180, 0, 86]
abbrev dktX4_comes_0 : List UInt8 := dkwX4_comes_0 ++ dktX4_comes_1
theorem dksX4_comes_0 : cX4_comes.data.toList.drop 0 = dktX4_comes_0 := by decide +kernel
theorem dksX4_comes_1 : cX4_comes.data.toList.drop 24 = dktX4_comes_1 := dk_seg dksX4_comes_0 24 rfl rfl
theorem dksX4_comes_2 : cX4_comes.data.toList.drop 48 = dktX4_comes_2 := dk_seg dksX4_comes_1 24 rfl rfl
theorem dksX4_comes_3 : cX4_comes.data.toList.drop 71 = dktX4_comes_3 := dk_seg dksX4_comes_2 23 rfl rfl
theorem dksX4_comes_4 : cX4_comes.data.toList.drop 95 = dktX4_comes_4 := dk_seg dksX4_comes_3 24 rfl rfl
theorem dksX4_comes_5 : cX4_comes.data.toList.drop 118 = dktX4_comes_5 := dk_seg dksX4_comes_4 23 rfl rfl
theorem dX4_comes_0 : decode cX4_comes 0 = .ok (.aload_n 1, 1) := dk_43 (dk_at dksX4_comes_0 0 rfl rfl)
theorem dX4_comes_1 : decode cX4_comes 1 = .ok (.getfield 75, 3) := dk_180 0 75 (dk_at dksX4_comes_0 1 rfl rfl)
theorem dX4_comes_4 : decode cX4_comes 4 = .ok (.aload_n 2, 1) := dk_44 (dk_at dksX4_comes_0 4 rfl rfl)
theorem dX4_comes_5 : decode cX4_comes 5 = .ok (.getfield 81, 3) := dk_180 0 81 (dk_at dksX4_comes_0 5 rfl rfl)
theorem dX4_comes_8 : decode cX4_comes 8 = .ok (.aaload, 1) := dk_50 (dk_at dksX4_comes_0 8 rfl rfl)
theorem dX4_comes_9 : decode cX4_comes 9 = .ok (.astore_n 3, 1) := dk_78 (dk_at dksX4_comes_0 9 rfl rfl)
theorem dX4_comes_10 : decode cX4_comes 10 = .ok (.aload_n 0, 1) := dk_42 (dk_at dksX4_comes_0 10 rfl rfl)
theorem dX4_comes_11 : decode cX4_comes 11 = .ok (.iconst 0, 1) := dk_3 (dk_at dksX4_comes_0 11 rfl rfl)
theorem dX4_comes_12 : decode cX4_comes 12 = .ok (.putfield 46, 3) := dk_181 0 46 (dk_at dksX4_comes_0 12 rfl rfl)
theorem dX4_comes_15 : decode cX4_comes 15 = .ok (.iconst 0, 1) := dk_3 (dk_at dksX4_comes_0 15 rfl rfl)
theorem dX4_comes_16 : decode cX4_comes 16 = .ok (.istore 4, 2) := dk_54 4 (dk_at dksX4_comes_0 16 rfl rfl)
theorem dX4_comes_18 : decode cX4_comes 18 = .ok (.iload 4, 2) := dk_21 4 (dk_at dksX4_comes_0 18 rfl rfl)
theorem dX4_comes_20 : decode cX4_comes 20 = .ok (.aload_n 1, 1) := dk_43 (dk_at dksX4_comes_0 20 rfl rfl)
theorem dX4_comes_21 : decode cX4_comes 21 = .ok (.getfield 86, 3) := dk_180 0 86 (dk_at dksX4_comes_0 21 rfl rfl)
theorem dX4_comes_24 : decode cX4_comes 24 = .ok (.if_icmp .ge 97, 3) := dk_162 0 97 (dk_at dksX4_comes_1 0 rfl rfl)
theorem dX4_comes_27 : decode cX4_comes 27 = .ok (.aload_n 0, 1) := dk_42 (dk_at dksX4_comes_1 3 rfl rfl)
theorem dX4_comes_28 : decode cX4_comes 28 = .ok (.getfield 65, 3) := dk_180 0 65 (dk_at dksX4_comes_1 4 rfl rfl)
theorem dX4_comes_31 : decode cX4_comes 31 = .ok (.ifCond .eq 7, 3) := dk_153 0 7 (dk_at dksX4_comes_1 7 rfl rfl)
theorem dX4_comes_34 : decode cX4_comes 34 = .ok (.iconst 0, 1) := dk_3 (dk_at dksX4_comes_1 10 rfl rfl)
theorem dX4_comes_35 : decode cX4_comes 35 = .ok (.goto 15, 3) := dk_167 0 15 (dk_at dksX4_comes_1 11 rfl rfl)
theorem dX4_comes_38 : decode cX4_comes 38 = .ok (.aload_n 2, 1) := dk_44 (dk_at dksX4_comes_1 14 rfl rfl)
theorem dX4_comes_39 : decode cX4_comes 39 = .ok (.getfield 89, 3) := dk_180 0 89 (dk_at dksX4_comes_1 15 rfl rfl)
theorem dX4_comes_42 : decode cX4_comes 42 = .ok (.aload_n 3, 1) := dk_45 (dk_at dksX4_comes_1 18 rfl rfl)
theorem dX4_comes_43 : decode cX4_comes 43 = .ok (.getfield 92, 3) := dk_180 0 92 (dk_at dksX4_comes_1 19 rfl rfl)
theorem dX4_comes_46 : decode cX4_comes 46 = .ok (.iload 4, 2) := dk_21 4 (dk_at dksX4_comes_1 22 rfl rfl)
theorem dX4_comes_48 : decode cX4_comes 48 = .ok (.iaload, 1) := dk_46 (dk_at dksX4_comes_2 0 rfl rfl)
theorem dX4_comes_49 : decode cX4_comes 49 = .ok (.imul, 1) := dk_104 (dk_at dksX4_comes_2 1 rfl rfl)
theorem dX4_comes_50 : decode cX4_comes 50 = .ok (.istore 5, 2) := dk_54 5 (dk_at dksX4_comes_2 2 rfl rfl)
theorem dX4_comes_52 : decode cX4_comes 52 = .ok (.aload_n 0, 1) := dk_42 (dk_at dksX4_comes_2 4 rfl rfl)
theorem dX4_comes_53 : decode cX4_comes 53 = .ok (.dup, 1) := dk_89 (dk_at dksX4_comes_2 5 rfl rfl)
theorem dX4_comes_54 : decode cX4_comes 54 = .ok (.getfield 58, 3) := dk_180 0 58 (dk_at dksX4_comes_2 6 rfl rfl)
theorem dX4_comes_57 : decode cX4_comes 57 = .ok (.iload 5, 2) := dk_21 5 (dk_at dksX4_comes_2 9 rfl rfl)
theorem dX4_comes_59 : decode cX4_comes 59 = .ok (.iadd, 1) := dk_96 (dk_at dksX4_comes_2 11 rfl rfl)
theorem dX4_comes_60 : decode cX4_comes 60 = .ok (.putfield 58, 3) := dk_181 0 58 (dk_at dksX4_comes_2 12 rfl rfl)
theorem dX4_comes_63 : decode cX4_comes 63 = .ok (.aload_n 0, 1) := dk_42 (dk_at dksX4_comes_2 15 rfl rfl)
theorem dX4_comes_64 : decode cX4_comes 64 = .ok (.getfield 9, 3) := dk_180 0 9 (dk_at dksX4_comes_2 16 rfl rfl)
theorem dX4_comes_67 : decode cX4_comes 67 = .ok (.iload 4, 2) := dk_21 4 (dk_at dksX4_comes_2 19 rfl rfl)
theorem dX4_comes_69 : decode cX4_comes 69 = .ok (.dup2, 1) := dk_92 (dk_at dksX4_comes_2 21 rfl rfl)
theorem dX4_comes_70 : decode cX4_comes 70 = .ok (.iaload, 1) := dk_46 (dk_at dksX4_comes_2 22 rfl rfl)
theorem dX4_comes_71 : decode cX4_comes 71 = .ok (.iload 5, 2) := dk_21 5 (dk_at dksX4_comes_3 0 rfl rfl)
theorem dX4_comes_73 : decode cX4_comes 73 = .ok (.aload_n 0, 1) := dk_42 (dk_at dksX4_comes_3 2 rfl rfl)
theorem dX4_comes_74 : decode cX4_comes 74 = .ok (.getfield 15, 3) := dk_180 0 15 (dk_at dksX4_comes_3 3 rfl rfl)
theorem dX4_comes_77 : decode cX4_comes 77 = .ok (.iload 4, 2) := dk_21 4 (dk_at dksX4_comes_3 6 rfl rfl)
theorem dX4_comes_79 : decode cX4_comes 79 = .ok (.iaload, 1) := dk_46 (dk_at dksX4_comes_3 8 rfl rfl)
theorem dX4_comes_80 : decode cX4_comes 80 = .ok (.iadd, 1) := dk_96 (dk_at dksX4_comes_3 9 rfl rfl)
theorem dX4_comes_81 : decode cX4_comes 81 = .ok (.iadd, 1) := dk_96 (dk_at dksX4_comes_3 10 rfl rfl)
theorem dX4_comes_82 : decode cX4_comes 82 = .ok (.iastore, 1) := dk_79 (dk_at dksX4_comes_3 11 rfl rfl)
theorem dX4_comes_83 : decode cX4_comes 83 = .ok (.aload_n 0, 1) := dk_42 (dk_at dksX4_comes_3 12 rfl rfl)
theorem dX4_comes_84 : decode cX4_comes 84 = .ok (.getfield 15, 3) := dk_180 0 15 (dk_at dksX4_comes_3 13 rfl rfl)
theorem dX4_comes_87 : decode cX4_comes 87 = .ok (.iload 4, 2) := dk_21 4 (dk_at dksX4_comes_3 16 rfl rfl)
theorem dX4_comes_89 : decode cX4_comes 89 = .ok (.iconst 0, 1) := dk_3 (dk_at dksX4_comes_3 18 rfl rfl)
theorem dX4_comes_90 : decode cX4_comes 90 = .ok (.iastore, 1) := dk_79 (dk_at dksX4_comes_3 19 rfl rfl)
theorem dX4_comes_91 : decode cX4_comes 91 = .ok (.aload_n 0, 1) := dk_42 (dk_at dksX4_comes_3 20 rfl rfl)
theorem dX4_comes_92 : decode cX4_comes 92 = .ok (.getfield 18, 3) := dk_180 0 18 (dk_at dksX4_comes_3 21 rfl rfl)
theorem dX4_comes_95 : decode cX4_comes 95 = .ok (.iload 4, 2) := dk_21 4 (dk_at dksX4_comes_4 0 rfl rfl)
theorem dX4_comes_97 : decode cX4_comes 97 = .ok (.iconst 0, 1) := dk_3 (dk_at dksX4_comes_4 2 rfl rfl)
theorem dX4_comes_98 : decode cX4_comes 98 = .ok (.iastore, 1) := dk_79 (dk_at dksX4_comes_4 3 rfl rfl)
theorem dX4_comes_99 : decode cX4_comes 99 = .ok (.aload_n 0, 1) := dk_42 (dk_at dksX4_comes_4 4 rfl rfl)
theorem dX4_comes_100 : decode cX4_comes 100 = .ok (.dup, 1) := dk_89 (dk_at dksX4_comes_4 5 rfl rfl)
theorem dX4_comes_101 : decode cX4_comes 101 = .ok (.getfield 46, 3) := dk_180 0 46 (dk_at dksX4_comes_4 6 rfl rfl)
theorem dX4_comes_104 : decode cX4_comes 104 = .ok (.aload_n 0, 1) := dk_42 (dk_at dksX4_comes_4 9 rfl rfl)
theorem dX4_comes_105 : decode cX4_comes 105 = .ok (.getfield 9, 3) := dk_180 0 9 (dk_at dksX4_comes_4 10 rfl rfl)
theorem dX4_comes_108 : decode cX4_comes 108 = .ok (.iload 4, 2) := dk_21 4 (dk_at dksX4_comes_4 13 rfl rfl)
theorem dX4_comes_110 : decode cX4_comes 110 = .ok (.iaload, 1) := dk_46 (dk_at dksX4_comes_4 15 rfl rfl)
theorem dX4_comes_111 : decode cX4_comes 111 = .ok (.iadd, 1) := dk_96 (dk_at dksX4_comes_4 16 rfl rfl)
theorem dX4_comes_112 : decode cX4_comes 112 = .ok (.putfield 46, 3) := dk_181 0 46 (dk_at dksX4_comes_4 17 rfl rfl)
theorem dX4_comes_115 : decode cX4_comes 115 = .ok (.iinc 4 1, 3) := dk_132 4 1 (dk_at dksX4_comes_4 20 rfl rfl)
theorem dX4_comes_118 : decode cX4_comes 118 = .ok (.goto (-100), 3) := dk_167 255 156 (dk_at dksX4_comes_5 0 rfl rfl)
theorem dX4_comes_121 : decode cX4_comes 121 = .ok (.return_, 1) := dk_177 (dk_at dksX4_comes_5 3 rfl rfl)
abbrev cX4_effectOf : ByteArray := prog_11_method_6_code
def yX4_effectOf : MethodName := ⟨RX4, "effectOf", "(LRoarMill$Works;LRoarMill$Settings;)I"⟩
def dkwX4_effectOf_3 : List UInt8 := [180, 0, 81, 50, 180, 0, 112, 96, 108, 172]
abbrev dktX4_effectOf_3 : List UInt8 := dkwX4_effectOf_3 ++ []
def dkwX4_effectOf_2 : List UInt8 := [184, 0, 109, 104, 43, 180, 0, 106, 108, 54, 4, 21, 4, 16, 10, 104, 16, 9, 43, 180, 0, 75, 44]
abbrev dktX4_effectOf_2 : List UInt8 := dkwX4_effectOf_2 ++ dktX4_effectOf_3
def dkwX4_effectOf_1 : List UInt8 := [167, 0, 4, 29, 100, 54, 4, 21, 4, 43, 180, 0, 106, 42, 180, 0, 37, 100, 43, 180, 0, 106, 5, 108]
abbrev dktX4_effectOf_1 : List UInt8 := dkwX4_effectOf_1 ++ dktX4_effectOf_2
def dkwX4_effectOf_0 : List UInt8 := [16, 100, 42, 180, 0, 46, 104, 43, 180, 0, 103, 108, 16, 50, 100, 62, 16, 100, 29, 156, 0, 8, 29, 116]
abbrev dktX4_effectOf_0 : List UInt8 := dkwX4_effectOf_0 ++ dktX4_effectOf_1
theorem dksX4_effectOf_0 : cX4_effectOf.data.toList.drop 0 = dktX4_effectOf_0 := by decide +kernel
theorem dksX4_effectOf_1 : cX4_effectOf.data.toList.drop 24 = dktX4_effectOf_1 := dk_seg dksX4_effectOf_0 24 rfl rfl
theorem dksX4_effectOf_2 : cX4_effectOf.data.toList.drop 48 = dktX4_effectOf_2 := dk_seg dksX4_effectOf_1 24 rfl rfl
theorem dksX4_effectOf_3 : cX4_effectOf.data.toList.drop 71 = dktX4_effectOf_3 := dk_seg dksX4_effectOf_2 23 rfl rfl
theorem dX4_effectOf_0 : decode cX4_effectOf 0 = .ok (.bipush 100, 2) := dk_16 100 (dk_at dksX4_effectOf_0 0 rfl rfl)
theorem dX4_effectOf_2 : decode cX4_effectOf 2 = .ok (.aload_n 0, 1) := dk_42 (dk_at dksX4_effectOf_0 2 rfl rfl)
theorem dX4_effectOf_3 : decode cX4_effectOf 3 = .ok (.getfield 46, 3) := dk_180 0 46 (dk_at dksX4_effectOf_0 3 rfl rfl)
theorem dX4_effectOf_6 : decode cX4_effectOf 6 = .ok (.imul, 1) := dk_104 (dk_at dksX4_effectOf_0 6 rfl rfl)
theorem dX4_effectOf_7 : decode cX4_effectOf 7 = .ok (.aload_n 1, 1) := dk_43 (dk_at dksX4_effectOf_0 7 rfl rfl)
theorem dX4_effectOf_8 : decode cX4_effectOf 8 = .ok (.getfield 103, 3) := dk_180 0 103 (dk_at dksX4_effectOf_0 8 rfl rfl)
theorem dX4_effectOf_11 : decode cX4_effectOf 11 = .ok (.idiv, 1) := dk_108 (dk_at dksX4_effectOf_0 11 rfl rfl)
theorem dX4_effectOf_12 : decode cX4_effectOf 12 = .ok (.bipush 50, 2) := dk_16 50 (dk_at dksX4_effectOf_0 12 rfl rfl)
theorem dX4_effectOf_14 : decode cX4_effectOf 14 = .ok (.isub, 1) := dk_100 (dk_at dksX4_effectOf_0 14 rfl rfl)
theorem dX4_effectOf_15 : decode cX4_effectOf 15 = .ok (.istore_n 3, 1) := dk_62 (dk_at dksX4_effectOf_0 15 rfl rfl)
theorem dX4_effectOf_16 : decode cX4_effectOf 16 = .ok (.bipush 100, 2) := dk_16 100 (dk_at dksX4_effectOf_0 16 rfl rfl)
theorem dX4_effectOf_18 : decode cX4_effectOf 18 = .ok (.iload_n 3, 1) := dk_29 (dk_at dksX4_effectOf_0 18 rfl rfl)
theorem dX4_effectOf_19 : decode cX4_effectOf 19 = .ok (.ifCond .ge 8, 3) := dk_156 0 8 (dk_at dksX4_effectOf_0 19 rfl rfl)
theorem dX4_effectOf_22 : decode cX4_effectOf 22 = .ok (.iload_n 3, 1) := dk_29 (dk_at dksX4_effectOf_0 22 rfl rfl)
theorem dX4_effectOf_23 : decode cX4_effectOf 23 = .ok (.ineg, 1) := dk_116 (dk_at dksX4_effectOf_0 23 rfl rfl)
theorem dX4_effectOf_24 : decode cX4_effectOf 24 = .ok (.goto 4, 3) := dk_167 0 4 (dk_at dksX4_effectOf_1 0 rfl rfl)
theorem dX4_effectOf_27 : decode cX4_effectOf 27 = .ok (.iload_n 3, 1) := dk_29 (dk_at dksX4_effectOf_1 3 rfl rfl)
theorem dX4_effectOf_28 : decode cX4_effectOf 28 = .ok (.isub, 1) := dk_100 (dk_at dksX4_effectOf_1 4 rfl rfl)
theorem dX4_effectOf_29 : decode cX4_effectOf 29 = .ok (.istore 4, 2) := dk_54 4 (dk_at dksX4_effectOf_1 5 rfl rfl)
theorem dX4_effectOf_31 : decode cX4_effectOf 31 = .ok (.iload 4, 2) := dk_21 4 (dk_at dksX4_effectOf_1 7 rfl rfl)
theorem dX4_effectOf_33 : decode cX4_effectOf 33 = .ok (.aload_n 1, 1) := dk_43 (dk_at dksX4_effectOf_1 9 rfl rfl)
theorem dX4_effectOf_34 : decode cX4_effectOf 34 = .ok (.getfield 106, 3) := dk_180 0 106 (dk_at dksX4_effectOf_1 10 rfl rfl)
theorem dX4_effectOf_37 : decode cX4_effectOf 37 = .ok (.aload_n 0, 1) := dk_42 (dk_at dksX4_effectOf_1 13 rfl rfl)
theorem dX4_effectOf_38 : decode cX4_effectOf 38 = .ok (.getfield 37, 3) := dk_180 0 37 (dk_at dksX4_effectOf_1 14 rfl rfl)
theorem dX4_effectOf_41 : decode cX4_effectOf 41 = .ok (.isub, 1) := dk_100 (dk_at dksX4_effectOf_1 17 rfl rfl)
theorem dX4_effectOf_42 : decode cX4_effectOf 42 = .ok (.aload_n 1, 1) := dk_43 (dk_at dksX4_effectOf_1 18 rfl rfl)
theorem dX4_effectOf_43 : decode cX4_effectOf 43 = .ok (.getfield 106, 3) := dk_180 0 106 (dk_at dksX4_effectOf_1 19 rfl rfl)
theorem dX4_effectOf_46 : decode cX4_effectOf 46 = .ok (.iconst 2, 1) := dk_5 (dk_at dksX4_effectOf_1 22 rfl rfl)
theorem dX4_effectOf_47 : decode cX4_effectOf 47 = .ok (.idiv, 1) := dk_108 (dk_at dksX4_effectOf_1 23 rfl rfl)
theorem dX4_effectOf_48 : decode cX4_effectOf 48 = .ok (.invokestatic 109, 3) := dk_184 0 109 (dk_at dksX4_effectOf_2 0 rfl rfl)
theorem dX4_effectOf_51 : decode cX4_effectOf 51 = .ok (.imul, 1) := dk_104 (dk_at dksX4_effectOf_2 3 rfl rfl)
theorem dX4_effectOf_52 : decode cX4_effectOf 52 = .ok (.aload_n 1, 1) := dk_43 (dk_at dksX4_effectOf_2 4 rfl rfl)
theorem dX4_effectOf_53 : decode cX4_effectOf 53 = .ok (.getfield 106, 3) := dk_180 0 106 (dk_at dksX4_effectOf_2 5 rfl rfl)
theorem dX4_effectOf_56 : decode cX4_effectOf 56 = .ok (.idiv, 1) := dk_108 (dk_at dksX4_effectOf_2 8 rfl rfl)
theorem dX4_effectOf_57 : decode cX4_effectOf 57 = .ok (.istore 4, 2) := dk_54 4 (dk_at dksX4_effectOf_2 9 rfl rfl)
theorem dX4_effectOf_59 : decode cX4_effectOf 59 = .ok (.iload 4, 2) := dk_21 4 (dk_at dksX4_effectOf_2 11 rfl rfl)
theorem dX4_effectOf_61 : decode cX4_effectOf 61 = .ok (.bipush 10, 2) := dk_16 10 (dk_at dksX4_effectOf_2 13 rfl rfl)
theorem dX4_effectOf_63 : decode cX4_effectOf 63 = .ok (.imul, 1) := dk_104 (dk_at dksX4_effectOf_2 15 rfl rfl)
theorem dX4_effectOf_64 : decode cX4_effectOf 64 = .ok (.bipush 9, 2) := dk_16 9 (dk_at dksX4_effectOf_2 16 rfl rfl)
theorem dX4_effectOf_66 : decode cX4_effectOf 66 = .ok (.aload_n 1, 1) := dk_43 (dk_at dksX4_effectOf_2 18 rfl rfl)
theorem dX4_effectOf_67 : decode cX4_effectOf 67 = .ok (.getfield 75, 3) := dk_180 0 75 (dk_at dksX4_effectOf_2 19 rfl rfl)
theorem dX4_effectOf_70 : decode cX4_effectOf 70 = .ok (.aload_n 2, 1) := dk_44 (dk_at dksX4_effectOf_2 22 rfl rfl)
theorem dX4_effectOf_71 : decode cX4_effectOf 71 = .ok (.getfield 81, 3) := dk_180 0 81 (dk_at dksX4_effectOf_3 0 rfl rfl)
theorem dX4_effectOf_74 : decode cX4_effectOf 74 = .ok (.aaload, 1) := dk_50 (dk_at dksX4_effectOf_3 3 rfl rfl)
theorem dX4_effectOf_75 : decode cX4_effectOf 75 = .ok (.getfield 112, 3) := dk_180 0 112 (dk_at dksX4_effectOf_3 4 rfl rfl)
theorem dX4_effectOf_78 : decode cX4_effectOf 78 = .ok (.iadd, 1) := dk_96 (dk_at dksX4_effectOf_3 7 rfl rfl)
theorem dX4_effectOf_79 : decode cX4_effectOf 79 = .ok (.idiv, 1) := dk_108 (dk_at dksX4_effectOf_3 8 rfl rfl)
theorem dX4_effectOf_80 : decode cX4_effectOf 80 = .ok (.ireturn, 1) := dk_172 (dk_at dksX4_effectOf_3 9 rfl rfl)
abbrev cX4_digs : ByteArray := prog_11_method_5_code
def yX4_digs : MethodName := ⟨RX4, "digs", "(LRoarMill$Works;)V"⟩
def dkwX4_digs_2 : List UInt8 := [181, 0, 28, 132, 2, 1, 167, 255, 204, 177]
abbrev dktX4_digs_2 : List UInt8 := dkwX4_digs_2 ++ []
def dkwX4_digs_1 : List UInt8 := [108, 4, 96, 184, 0, 97, 62, 42, 180, 0, 9, 28, 92, 46, 29, 100, 79, 42, 89, 180, 0, 28, 29, 96]
abbrev dktX4_digs_1 : List UInt8 := dkwX4_digs_1 ++ dktX4_digs_2
def dkwX4_digs_0 : List UInt8 := [3, 61, 28, 43, 180, 0, 86, 162, 0, 50, 42, 180, 0, 9, 28, 46, 42, 180, 0, 9, 28, 46, 16, 10]
abbrev dktX4_digs_0 : List UInt8 := dkwX4_digs_0 ++ dktX4_digs_1
theorem dksX4_digs_0 : cX4_digs.data.toList.drop 0 = dktX4_digs_0 := by decide +kernel
theorem dksX4_digs_1 : cX4_digs.data.toList.drop 24 = dktX4_digs_1 := dk_seg dksX4_digs_0 24 rfl rfl
theorem dksX4_digs_2 : cX4_digs.data.toList.drop 48 = dktX4_digs_2 := dk_seg dksX4_digs_1 24 rfl rfl
theorem dX4_digs_0 : decode cX4_digs 0 = .ok (.iconst 0, 1) := dk_3 (dk_at dksX4_digs_0 0 rfl rfl)
theorem dX4_digs_1 : decode cX4_digs 1 = .ok (.istore_n 2, 1) := dk_61 (dk_at dksX4_digs_0 1 rfl rfl)
theorem dX4_digs_2 : decode cX4_digs 2 = .ok (.iload_n 2, 1) := dk_28 (dk_at dksX4_digs_0 2 rfl rfl)
theorem dX4_digs_3 : decode cX4_digs 3 = .ok (.aload_n 1, 1) := dk_43 (dk_at dksX4_digs_0 3 rfl rfl)
theorem dX4_digs_4 : decode cX4_digs 4 = .ok (.getfield 86, 3) := dk_180 0 86 (dk_at dksX4_digs_0 4 rfl rfl)
theorem dX4_digs_7 : decode cX4_digs 7 = .ok (.if_icmp .ge 50, 3) := dk_162 0 50 (dk_at dksX4_digs_0 7 rfl rfl)
theorem dX4_digs_10 : decode cX4_digs 10 = .ok (.aload_n 0, 1) := dk_42 (dk_at dksX4_digs_0 10 rfl rfl)
theorem dX4_digs_11 : decode cX4_digs 11 = .ok (.getfield 9, 3) := dk_180 0 9 (dk_at dksX4_digs_0 11 rfl rfl)
theorem dX4_digs_14 : decode cX4_digs 14 = .ok (.iload_n 2, 1) := dk_28 (dk_at dksX4_digs_0 14 rfl rfl)
theorem dX4_digs_15 : decode cX4_digs 15 = .ok (.iaload, 1) := dk_46 (dk_at dksX4_digs_0 15 rfl rfl)
theorem dX4_digs_16 : decode cX4_digs 16 = .ok (.aload_n 0, 1) := dk_42 (dk_at dksX4_digs_0 16 rfl rfl)
theorem dX4_digs_17 : decode cX4_digs 17 = .ok (.getfield 9, 3) := dk_180 0 9 (dk_at dksX4_digs_0 17 rfl rfl)
theorem dX4_digs_20 : decode cX4_digs 20 = .ok (.iload_n 2, 1) := dk_28 (dk_at dksX4_digs_0 20 rfl rfl)
theorem dX4_digs_21 : decode cX4_digs 21 = .ok (.iaload, 1) := dk_46 (dk_at dksX4_digs_0 21 rfl rfl)
theorem dX4_digs_22 : decode cX4_digs 22 = .ok (.bipush 10, 2) := dk_16 10 (dk_at dksX4_digs_0 22 rfl rfl)
theorem dX4_digs_24 : decode cX4_digs 24 = .ok (.idiv, 1) := dk_108 (dk_at dksX4_digs_1 0 rfl rfl)
theorem dX4_digs_25 : decode cX4_digs 25 = .ok (.iconst 1, 1) := dk_4 (dk_at dksX4_digs_1 1 rfl rfl)
theorem dX4_digs_26 : decode cX4_digs 26 = .ok (.iadd, 1) := dk_96 (dk_at dksX4_digs_1 2 rfl rfl)
theorem dX4_digs_27 : decode cX4_digs 27 = .ok (.invokestatic 97, 3) := dk_184 0 97 (dk_at dksX4_digs_1 3 rfl rfl)
theorem dX4_digs_30 : decode cX4_digs 30 = .ok (.istore_n 3, 1) := dk_62 (dk_at dksX4_digs_1 6 rfl rfl)
theorem dX4_digs_31 : decode cX4_digs 31 = .ok (.aload_n 0, 1) := dk_42 (dk_at dksX4_digs_1 7 rfl rfl)
theorem dX4_digs_32 : decode cX4_digs 32 = .ok (.getfield 9, 3) := dk_180 0 9 (dk_at dksX4_digs_1 8 rfl rfl)
theorem dX4_digs_35 : decode cX4_digs 35 = .ok (.iload_n 2, 1) := dk_28 (dk_at dksX4_digs_1 11 rfl rfl)
theorem dX4_digs_36 : decode cX4_digs 36 = .ok (.dup2, 1) := dk_92 (dk_at dksX4_digs_1 12 rfl rfl)
theorem dX4_digs_37 : decode cX4_digs 37 = .ok (.iaload, 1) := dk_46 (dk_at dksX4_digs_1 13 rfl rfl)
theorem dX4_digs_38 : decode cX4_digs 38 = .ok (.iload_n 3, 1) := dk_29 (dk_at dksX4_digs_1 14 rfl rfl)
theorem dX4_digs_39 : decode cX4_digs 39 = .ok (.isub, 1) := dk_100 (dk_at dksX4_digs_1 15 rfl rfl)
theorem dX4_digs_40 : decode cX4_digs 40 = .ok (.iastore, 1) := dk_79 (dk_at dksX4_digs_1 16 rfl rfl)
theorem dX4_digs_41 : decode cX4_digs 41 = .ok (.aload_n 0, 1) := dk_42 (dk_at dksX4_digs_1 17 rfl rfl)
theorem dX4_digs_42 : decode cX4_digs 42 = .ok (.dup, 1) := dk_89 (dk_at dksX4_digs_1 18 rfl rfl)
theorem dX4_digs_43 : decode cX4_digs 43 = .ok (.getfield 28, 3) := dk_180 0 28 (dk_at dksX4_digs_1 19 rfl rfl)
theorem dX4_digs_46 : decode cX4_digs 46 = .ok (.iload_n 3, 1) := dk_29 (dk_at dksX4_digs_1 22 rfl rfl)
theorem dX4_digs_47 : decode cX4_digs 47 = .ok (.iadd, 1) := dk_96 (dk_at dksX4_digs_1 23 rfl rfl)
theorem dX4_digs_48 : decode cX4_digs 48 = .ok (.putfield 28, 3) := dk_181 0 28 (dk_at dksX4_digs_2 0 rfl rfl)
theorem dX4_digs_51 : decode cX4_digs 51 = .ok (.iinc 2 1, 3) := dk_132 2 1 (dk_at dksX4_digs_2 3 rfl rfl)
theorem dX4_digs_54 : decode cX4_digs 54 = .ok (.goto (-52), 3) := dk_167 255 204 (dk_at dksX4_digs_2 6 rfl rfl)
theorem dX4_digs_57 : decode cX4_digs 57 = .ok (.return_, 1) := dk_177 (dk_at dksX4_digs_2 9 rfl rfl)
abbrev cX4_grinds : ByteArray := prog_11_method_7_code
def yX4_grinds : MethodName := ⟨RX4, "grinds", "(LRoarMill$Works;)V"⟩
def dkwX4_grinds_5 : List UInt8 := [100, 96, 79, 132, 2, 255, 167, 255, 138, 177]
abbrev dktX4_grinds_5 : List UInt8 := dkwX4_grinds_5 ++ []
def dkwX4_grinds_4 : List UInt8 := [167, 0, 5, 21, 4, 96, 79, 21, 5, 154, 0, 18, 42, 180, 0, 9, 28, 5, 96, 92, 46, 29, 21, 4]
abbrev dktX4_grinds_4 : List UInt8 := dkwX4_grinds_4 ++ dktX4_grinds_5
def dkwX4_grinds_3 : List UInt8 := [180, 0, 9, 28, 92, 46, 29, 100, 79, 42, 180, 0, 9, 28, 4, 96, 92, 46, 21, 5, 153, 0, 7, 29]
abbrev dktX4_grinds_3 : List UInt8 := dkwX4_grinds_3 ++ dktX4_grinds_4
def dkwX4_grinds_2 : List UInt8 := [104, 16, 100, 108, 54, 4, 28, 5, 96, 43, 180, 0, 86, 161, 0, 7, 4, 167, 0, 4, 3, 54, 5, 42]
abbrev dktX4_grinds_2 : List UInt8 := dkwX4_grinds_2 ++ dktX4_grinds_3
def dkwX4_grinds_1 : List UInt8 := [180, 0, 119, 104, 42, 180, 0, 49, 104, 17, 39, 16, 108, 62, 29, 43, 180, 0, 115, 28, 50, 180, 0, 124]
abbrev dktX4_grinds_1 : List UInt8 := dkwX4_grinds_1 ++ dktX4_grinds_2
def dkwX4_grinds_0 : List UInt8 := [43, 180, 0, 86, 5, 100, 61, 28, 155, 0, 120, 42, 180, 0, 9, 28, 46, 43, 180, 0, 115, 28, 50]
abbrev dktX4_grinds_0 : List UInt8 := dkwX4_grinds_0 ++ dktX4_grinds_1
theorem dksX4_grinds_0 : cX4_grinds.data.toList.drop 0 = dktX4_grinds_0 := by decide +kernel
theorem dksX4_grinds_1 : cX4_grinds.data.toList.drop 23 = dktX4_grinds_1 := dk_seg dksX4_grinds_0 23 rfl rfl
theorem dksX4_grinds_2 : cX4_grinds.data.toList.drop 47 = dktX4_grinds_2 := dk_seg dksX4_grinds_1 24 rfl rfl
theorem dksX4_grinds_3 : cX4_grinds.data.toList.drop 71 = dktX4_grinds_3 := dk_seg dksX4_grinds_2 24 rfl rfl
theorem dksX4_grinds_4 : cX4_grinds.data.toList.drop 95 = dktX4_grinds_4 := dk_seg dksX4_grinds_3 24 rfl rfl
theorem dksX4_grinds_5 : cX4_grinds.data.toList.drop 119 = dktX4_grinds_5 := dk_seg dksX4_grinds_4 24 rfl rfl
theorem dX4_grinds_0 : decode cX4_grinds 0 = .ok (.aload_n 1, 1) := dk_43 (dk_at dksX4_grinds_0 0 rfl rfl)
theorem dX4_grinds_1 : decode cX4_grinds 1 = .ok (.getfield 86, 3) := dk_180 0 86 (dk_at dksX4_grinds_0 1 rfl rfl)
theorem dX4_grinds_4 : decode cX4_grinds 4 = .ok (.iconst 2, 1) := dk_5 (dk_at dksX4_grinds_0 4 rfl rfl)
theorem dX4_grinds_5 : decode cX4_grinds 5 = .ok (.isub, 1) := dk_100 (dk_at dksX4_grinds_0 5 rfl rfl)
theorem dX4_grinds_6 : decode cX4_grinds 6 = .ok (.istore_n 2, 1) := dk_61 (dk_at dksX4_grinds_0 6 rfl rfl)
theorem dX4_grinds_7 : decode cX4_grinds 7 = .ok (.iload_n 2, 1) := dk_28 (dk_at dksX4_grinds_0 7 rfl rfl)
theorem dX4_grinds_8 : decode cX4_grinds 8 = .ok (.ifCond .lt 120, 3) := dk_155 0 120 (dk_at dksX4_grinds_0 8 rfl rfl)
theorem dX4_grinds_11 : decode cX4_grinds 11 = .ok (.aload_n 0, 1) := dk_42 (dk_at dksX4_grinds_0 11 rfl rfl)
theorem dX4_grinds_12 : decode cX4_grinds 12 = .ok (.getfield 9, 3) := dk_180 0 9 (dk_at dksX4_grinds_0 12 rfl rfl)
theorem dX4_grinds_15 : decode cX4_grinds 15 = .ok (.iload_n 2, 1) := dk_28 (dk_at dksX4_grinds_0 15 rfl rfl)
theorem dX4_grinds_16 : decode cX4_grinds 16 = .ok (.iaload, 1) := dk_46 (dk_at dksX4_grinds_0 16 rfl rfl)
theorem dX4_grinds_17 : decode cX4_grinds 17 = .ok (.aload_n 1, 1) := dk_43 (dk_at dksX4_grinds_0 17 rfl rfl)
theorem dX4_grinds_18 : decode cX4_grinds 18 = .ok (.getfield 115, 3) := dk_180 0 115 (dk_at dksX4_grinds_0 18 rfl rfl)
theorem dX4_grinds_21 : decode cX4_grinds 21 = .ok (.iload_n 2, 1) := dk_28 (dk_at dksX4_grinds_0 21 rfl rfl)
theorem dX4_grinds_22 : decode cX4_grinds 22 = .ok (.aaload, 1) := dk_50 (dk_at dksX4_grinds_0 22 rfl rfl)
theorem dX4_grinds_23 : decode cX4_grinds 23 = .ok (.getfield 119, 3) := dk_180 0 119 (dk_at dksX4_grinds_1 0 rfl rfl)
theorem dX4_grinds_26 : decode cX4_grinds 26 = .ok (.imul, 1) := dk_104 (dk_at dksX4_grinds_1 3 rfl rfl)
theorem dX4_grinds_27 : decode cX4_grinds 27 = .ok (.aload_n 0, 1) := dk_42 (dk_at dksX4_grinds_1 4 rfl rfl)
theorem dX4_grinds_28 : decode cX4_grinds 28 = .ok (.getfield 49, 3) := dk_180 0 49 (dk_at dksX4_grinds_1 5 rfl rfl)
theorem dX4_grinds_31 : decode cX4_grinds 31 = .ok (.imul, 1) := dk_104 (dk_at dksX4_grinds_1 8 rfl rfl)
theorem dX4_grinds_32 : decode cX4_grinds 32 = .ok (.sipush 10000, 3) := dk_17 39 16 (dk_at dksX4_grinds_1 9 rfl rfl)
theorem dX4_grinds_35 : decode cX4_grinds 35 = .ok (.idiv, 1) := dk_108 (dk_at dksX4_grinds_1 12 rfl rfl)
theorem dX4_grinds_36 : decode cX4_grinds 36 = .ok (.istore_n 3, 1) := dk_62 (dk_at dksX4_grinds_1 13 rfl rfl)
theorem dX4_grinds_37 : decode cX4_grinds 37 = .ok (.iload_n 3, 1) := dk_29 (dk_at dksX4_grinds_1 14 rfl rfl)
theorem dX4_grinds_38 : decode cX4_grinds 38 = .ok (.aload_n 1, 1) := dk_43 (dk_at dksX4_grinds_1 15 rfl rfl)
theorem dX4_grinds_39 : decode cX4_grinds 39 = .ok (.getfield 115, 3) := dk_180 0 115 (dk_at dksX4_grinds_1 16 rfl rfl)
theorem dX4_grinds_42 : decode cX4_grinds 42 = .ok (.iload_n 2, 1) := dk_28 (dk_at dksX4_grinds_1 19 rfl rfl)
theorem dX4_grinds_43 : decode cX4_grinds 43 = .ok (.aaload, 1) := dk_50 (dk_at dksX4_grinds_1 20 rfl rfl)
theorem dX4_grinds_44 : decode cX4_grinds 44 = .ok (.getfield 124, 3) := dk_180 0 124 (dk_at dksX4_grinds_1 21 rfl rfl)
theorem dX4_grinds_47 : decode cX4_grinds 47 = .ok (.imul, 1) := dk_104 (dk_at dksX4_grinds_2 0 rfl rfl)
theorem dX4_grinds_48 : decode cX4_grinds 48 = .ok (.bipush 100, 2) := dk_16 100 (dk_at dksX4_grinds_2 1 rfl rfl)
theorem dX4_grinds_50 : decode cX4_grinds 50 = .ok (.idiv, 1) := dk_108 (dk_at dksX4_grinds_2 3 rfl rfl)
theorem dX4_grinds_51 : decode cX4_grinds 51 = .ok (.istore 4, 2) := dk_54 4 (dk_at dksX4_grinds_2 4 rfl rfl)
theorem dX4_grinds_53 : decode cX4_grinds 53 = .ok (.iload_n 2, 1) := dk_28 (dk_at dksX4_grinds_2 6 rfl rfl)
theorem dX4_grinds_54 : decode cX4_grinds 54 = .ok (.iconst 2, 1) := dk_5 (dk_at dksX4_grinds_2 7 rfl rfl)
theorem dX4_grinds_55 : decode cX4_grinds 55 = .ok (.iadd, 1) := dk_96 (dk_at dksX4_grinds_2 8 rfl rfl)
theorem dX4_grinds_56 : decode cX4_grinds 56 = .ok (.aload_n 1, 1) := dk_43 (dk_at dksX4_grinds_2 9 rfl rfl)
theorem dX4_grinds_57 : decode cX4_grinds 57 = .ok (.getfield 86, 3) := dk_180 0 86 (dk_at dksX4_grinds_2 10 rfl rfl)
theorem dX4_grinds_60 : decode cX4_grinds 60 = .ok (.if_icmp .lt 7, 3) := dk_161 0 7 (dk_at dksX4_grinds_2 13 rfl rfl)
theorem dX4_grinds_63 : decode cX4_grinds 63 = .ok (.iconst 1, 1) := dk_4 (dk_at dksX4_grinds_2 16 rfl rfl)
theorem dX4_grinds_64 : decode cX4_grinds 64 = .ok (.goto 4, 3) := dk_167 0 4 (dk_at dksX4_grinds_2 17 rfl rfl)
theorem dX4_grinds_67 : decode cX4_grinds 67 = .ok (.iconst 0, 1) := dk_3 (dk_at dksX4_grinds_2 20 rfl rfl)
theorem dX4_grinds_68 : decode cX4_grinds 68 = .ok (.istore 5, 2) := dk_54 5 (dk_at dksX4_grinds_2 21 rfl rfl)
theorem dX4_grinds_70 : decode cX4_grinds 70 = .ok (.aload_n 0, 1) := dk_42 (dk_at dksX4_grinds_2 23 rfl rfl)
theorem dX4_grinds_71 : decode cX4_grinds 71 = .ok (.getfield 9, 3) := dk_180 0 9 (dk_at dksX4_grinds_3 0 rfl rfl)
theorem dX4_grinds_74 : decode cX4_grinds 74 = .ok (.iload_n 2, 1) := dk_28 (dk_at dksX4_grinds_3 3 rfl rfl)
theorem dX4_grinds_75 : decode cX4_grinds 75 = .ok (.dup2, 1) := dk_92 (dk_at dksX4_grinds_3 4 rfl rfl)
theorem dX4_grinds_76 : decode cX4_grinds 76 = .ok (.iaload, 1) := dk_46 (dk_at dksX4_grinds_3 5 rfl rfl)
theorem dX4_grinds_77 : decode cX4_grinds 77 = .ok (.iload_n 3, 1) := dk_29 (dk_at dksX4_grinds_3 6 rfl rfl)
theorem dX4_grinds_78 : decode cX4_grinds 78 = .ok (.isub, 1) := dk_100 (dk_at dksX4_grinds_3 7 rfl rfl)
theorem dX4_grinds_79 : decode cX4_grinds 79 = .ok (.iastore, 1) := dk_79 (dk_at dksX4_grinds_3 8 rfl rfl)
theorem dX4_grinds_80 : decode cX4_grinds 80 = .ok (.aload_n 0, 1) := dk_42 (dk_at dksX4_grinds_3 9 rfl rfl)
theorem dX4_grinds_81 : decode cX4_grinds 81 = .ok (.getfield 9, 3) := dk_180 0 9 (dk_at dksX4_grinds_3 10 rfl rfl)
theorem dX4_grinds_84 : decode cX4_grinds 84 = .ok (.iload_n 2, 1) := dk_28 (dk_at dksX4_grinds_3 13 rfl rfl)
theorem dX4_grinds_85 : decode cX4_grinds 85 = .ok (.iconst 1, 1) := dk_4 (dk_at dksX4_grinds_3 14 rfl rfl)
theorem dX4_grinds_86 : decode cX4_grinds 86 = .ok (.iadd, 1) := dk_96 (dk_at dksX4_grinds_3 15 rfl rfl)
theorem dX4_grinds_87 : decode cX4_grinds 87 = .ok (.dup2, 1) := dk_92 (dk_at dksX4_grinds_3 16 rfl rfl)
theorem dX4_grinds_88 : decode cX4_grinds 88 = .ok (.iaload, 1) := dk_46 (dk_at dksX4_grinds_3 17 rfl rfl)
theorem dX4_grinds_89 : decode cX4_grinds 89 = .ok (.iload 5, 2) := dk_21 5 (dk_at dksX4_grinds_3 18 rfl rfl)
theorem dX4_grinds_91 : decode cX4_grinds 91 = .ok (.ifCond .eq 7, 3) := dk_153 0 7 (dk_at dksX4_grinds_3 20 rfl rfl)
theorem dX4_grinds_94 : decode cX4_grinds 94 = .ok (.iload_n 3, 1) := dk_29 (dk_at dksX4_grinds_3 23 rfl rfl)
theorem dX4_grinds_95 : decode cX4_grinds 95 = .ok (.goto 5, 3) := dk_167 0 5 (dk_at dksX4_grinds_4 0 rfl rfl)
theorem dX4_grinds_98 : decode cX4_grinds 98 = .ok (.iload 4, 2) := dk_21 4 (dk_at dksX4_grinds_4 3 rfl rfl)
theorem dX4_grinds_100 : decode cX4_grinds 100 = .ok (.iadd, 1) := dk_96 (dk_at dksX4_grinds_4 5 rfl rfl)
theorem dX4_grinds_101 : decode cX4_grinds 101 = .ok (.iastore, 1) := dk_79 (dk_at dksX4_grinds_4 6 rfl rfl)
theorem dX4_grinds_102 : decode cX4_grinds 102 = .ok (.iload 5, 2) := dk_21 5 (dk_at dksX4_grinds_4 7 rfl rfl)
theorem dX4_grinds_104 : decode cX4_grinds 104 = .ok (.ifCond .ne 18, 3) := dk_154 0 18 (dk_at dksX4_grinds_4 9 rfl rfl)
theorem dX4_grinds_107 : decode cX4_grinds 107 = .ok (.aload_n 0, 1) := dk_42 (dk_at dksX4_grinds_4 12 rfl rfl)
theorem dX4_grinds_108 : decode cX4_grinds 108 = .ok (.getfield 9, 3) := dk_180 0 9 (dk_at dksX4_grinds_4 13 rfl rfl)
theorem dX4_grinds_111 : decode cX4_grinds 111 = .ok (.iload_n 2, 1) := dk_28 (dk_at dksX4_grinds_4 16 rfl rfl)
theorem dX4_grinds_112 : decode cX4_grinds 112 = .ok (.iconst 2, 1) := dk_5 (dk_at dksX4_grinds_4 17 rfl rfl)
theorem dX4_grinds_113 : decode cX4_grinds 113 = .ok (.iadd, 1) := dk_96 (dk_at dksX4_grinds_4 18 rfl rfl)
theorem dX4_grinds_114 : decode cX4_grinds 114 = .ok (.dup2, 1) := dk_92 (dk_at dksX4_grinds_4 19 rfl rfl)
theorem dX4_grinds_115 : decode cX4_grinds 115 = .ok (.iaload, 1) := dk_46 (dk_at dksX4_grinds_4 20 rfl rfl)
theorem dX4_grinds_116 : decode cX4_grinds 116 = .ok (.iload_n 3, 1) := dk_29 (dk_at dksX4_grinds_4 21 rfl rfl)
theorem dX4_grinds_117 : decode cX4_grinds 117 = .ok (.iload 4, 2) := dk_21 4 (dk_at dksX4_grinds_4 22 rfl rfl)
theorem dX4_grinds_119 : decode cX4_grinds 119 = .ok (.isub, 1) := dk_100 (dk_at dksX4_grinds_5 0 rfl rfl)
theorem dX4_grinds_120 : decode cX4_grinds 120 = .ok (.iadd, 1) := dk_96 (dk_at dksX4_grinds_5 1 rfl rfl)
theorem dX4_grinds_121 : decode cX4_grinds 121 = .ok (.iastore, 1) := dk_79 (dk_at dksX4_grinds_5 2 rfl rfl)
theorem dX4_grinds_122 : decode cX4_grinds 122 = .ok (.iinc 2 (-1), 3) := dk_132 2 255 (dk_at dksX4_grinds_5 3 rfl rfl)
theorem dX4_grinds_125 : decode cX4_grinds 125 = .ok (.goto (-118), 3) := dk_167 255 138 (dk_at dksX4_grinds_5 6 rfl rfl)
theorem dX4_grinds_128 : decode cX4_grinds 128 = .ok (.return_, 1) := dk_177 (dk_at dksX4_grinds_5 9 rfl rfl)
abbrev cX4_sifts : ByteArray := prog_11_method_8_code
def yX4_sifts : MethodName := ⟨RX4, "sifts", "(LRoarMill$Works;LRoarMill$Settings;)V"⟩
def dkwX4_sifts_5 : List UInt8 := [180, 0, 18, 29, 46, 96, 181, 0, 24, 132, 3, 1, 167, 255, 128, 177]
abbrev dktX4_sifts_5 : List UInt8 := dkwX4_sifts_5 ++ []
def dkwX4_sifts_4 : List UInt8 := [79, 42, 180, 0, 21, 29, 92, 46, 42, 180, 0, 18, 29, 46, 96, 79, 42, 89, 180, 0, 24, 42]
abbrev dktX4_sifts_4 : List UInt8 := dkwX4_sifts_4 ++ dktX4_sifts_5
def dkwX4_sifts_3 : List UInt8 := [104, 16, 100, 108, 167, 0, 5, 21, 4, 79, 42, 180, 0, 15, 29, 21, 4, 42, 180, 0, 18, 29, 46, 100]
abbrev dktX4_sifts_3 : List UInt8 := dkwX4_sifts_3 ++ dktX4_sifts_4
def dkwX4_sifts_2 : List UInt8 := [29, 43, 180, 0, 130, 162, 0, 26, 21, 4, 16, 100, 42, 180, 0, 40, 43, 180, 0, 133, 104, 184, 0, 97]
abbrev dktX4_sifts_2 : List UInt8 := dkwX4_sifts_2 ++ dktX4_sifts_3
def dkwX4_sifts_1 : List UInt8 := [104, 96, 104, 16, 100, 108, 54, 4, 42, 180, 0, 9, 29, 92, 46, 21, 4, 100, 79, 42, 180, 0, 18, 29]
abbrev dktX4_sifts_1 : List UInt8 := dkwX4_sifts_1 ++ dktX4_sifts_2
def dkwX4_sifts_0 : List UInt8 := [3, 62, 29, 43, 180, 0, 86, 162, 0, 126, 42, 180, 0, 9, 29, 46, 16, 20, 16, 10, 44, 180, 0, 127]
abbrev dktX4_sifts_0 : List UInt8 := dkwX4_sifts_0 ++ dktX4_sifts_1
theorem dksX4_sifts_0 : cX4_sifts.data.toList.drop 0 = dktX4_sifts_0 := by decide +kernel
theorem dksX4_sifts_1 : cX4_sifts.data.toList.drop 24 = dktX4_sifts_1 := dk_seg dksX4_sifts_0 24 rfl rfl
theorem dksX4_sifts_2 : cX4_sifts.data.toList.drop 48 = dktX4_sifts_2 := dk_seg dksX4_sifts_1 24 rfl rfl
theorem dksX4_sifts_3 : cX4_sifts.data.toList.drop 72 = dktX4_sifts_3 := dk_seg dksX4_sifts_2 24 rfl rfl
theorem dksX4_sifts_4 : cX4_sifts.data.toList.drop 96 = dktX4_sifts_4 := dk_seg dksX4_sifts_3 24 rfl rfl
theorem dksX4_sifts_5 : cX4_sifts.data.toList.drop 118 = dktX4_sifts_5 := dk_seg dksX4_sifts_4 22 rfl rfl
theorem dX4_sifts_0 : decode cX4_sifts 0 = .ok (.iconst 0, 1) := dk_3 (dk_at dksX4_sifts_0 0 rfl rfl)
theorem dX4_sifts_1 : decode cX4_sifts 1 = .ok (.istore_n 3, 1) := dk_62 (dk_at dksX4_sifts_0 1 rfl rfl)
theorem dX4_sifts_2 : decode cX4_sifts 2 = .ok (.iload_n 3, 1) := dk_29 (dk_at dksX4_sifts_0 2 rfl rfl)
theorem dX4_sifts_3 : decode cX4_sifts 3 = .ok (.aload_n 1, 1) := dk_43 (dk_at dksX4_sifts_0 3 rfl rfl)
theorem dX4_sifts_4 : decode cX4_sifts 4 = .ok (.getfield 86, 3) := dk_180 0 86 (dk_at dksX4_sifts_0 4 rfl rfl)
theorem dX4_sifts_7 : decode cX4_sifts 7 = .ok (.if_icmp .ge 126, 3) := dk_162 0 126 (dk_at dksX4_sifts_0 7 rfl rfl)
theorem dX4_sifts_10 : decode cX4_sifts 10 = .ok (.aload_n 0, 1) := dk_42 (dk_at dksX4_sifts_0 10 rfl rfl)
theorem dX4_sifts_11 : decode cX4_sifts 11 = .ok (.getfield 9, 3) := dk_180 0 9 (dk_at dksX4_sifts_0 11 rfl rfl)
theorem dX4_sifts_14 : decode cX4_sifts 14 = .ok (.iload_n 3, 1) := dk_29 (dk_at dksX4_sifts_0 14 rfl rfl)
theorem dX4_sifts_15 : decode cX4_sifts 15 = .ok (.iaload, 1) := dk_46 (dk_at dksX4_sifts_0 15 rfl rfl)
theorem dX4_sifts_16 : decode cX4_sifts 16 = .ok (.bipush 20, 2) := dk_16 20 (dk_at dksX4_sifts_0 16 rfl rfl)
theorem dX4_sifts_18 : decode cX4_sifts 18 = .ok (.bipush 10, 2) := dk_16 10 (dk_at dksX4_sifts_0 18 rfl rfl)
theorem dX4_sifts_20 : decode cX4_sifts 20 = .ok (.aload_n 2, 1) := dk_44 (dk_at dksX4_sifts_0 20 rfl rfl)
theorem dX4_sifts_21 : decode cX4_sifts 21 = .ok (.getfield 127, 3) := dk_180 0 127 (dk_at dksX4_sifts_0 21 rfl rfl)
theorem dX4_sifts_24 : decode cX4_sifts 24 = .ok (.imul, 1) := dk_104 (dk_at dksX4_sifts_1 0 rfl rfl)
theorem dX4_sifts_25 : decode cX4_sifts 25 = .ok (.iadd, 1) := dk_96 (dk_at dksX4_sifts_1 1 rfl rfl)
theorem dX4_sifts_26 : decode cX4_sifts 26 = .ok (.imul, 1) := dk_104 (dk_at dksX4_sifts_1 2 rfl rfl)
theorem dX4_sifts_27 : decode cX4_sifts 27 = .ok (.bipush 100, 2) := dk_16 100 (dk_at dksX4_sifts_1 3 rfl rfl)
theorem dX4_sifts_29 : decode cX4_sifts 29 = .ok (.idiv, 1) := dk_108 (dk_at dksX4_sifts_1 5 rfl rfl)
theorem dX4_sifts_30 : decode cX4_sifts 30 = .ok (.istore 4, 2) := dk_54 4 (dk_at dksX4_sifts_1 6 rfl rfl)
theorem dX4_sifts_32 : decode cX4_sifts 32 = .ok (.aload_n 0, 1) := dk_42 (dk_at dksX4_sifts_1 8 rfl rfl)
theorem dX4_sifts_33 : decode cX4_sifts 33 = .ok (.getfield 9, 3) := dk_180 0 9 (dk_at dksX4_sifts_1 9 rfl rfl)
theorem dX4_sifts_36 : decode cX4_sifts 36 = .ok (.iload_n 3, 1) := dk_29 (dk_at dksX4_sifts_1 12 rfl rfl)
theorem dX4_sifts_37 : decode cX4_sifts 37 = .ok (.dup2, 1) := dk_92 (dk_at dksX4_sifts_1 13 rfl rfl)
theorem dX4_sifts_38 : decode cX4_sifts 38 = .ok (.iaload, 1) := dk_46 (dk_at dksX4_sifts_1 14 rfl rfl)
theorem dX4_sifts_39 : decode cX4_sifts 39 = .ok (.iload 4, 2) := dk_21 4 (dk_at dksX4_sifts_1 15 rfl rfl)
theorem dX4_sifts_41 : decode cX4_sifts 41 = .ok (.isub, 1) := dk_100 (dk_at dksX4_sifts_1 17 rfl rfl)
theorem dX4_sifts_42 : decode cX4_sifts 42 = .ok (.iastore, 1) := dk_79 (dk_at dksX4_sifts_1 18 rfl rfl)
theorem dX4_sifts_43 : decode cX4_sifts 43 = .ok (.aload_n 0, 1) := dk_42 (dk_at dksX4_sifts_1 19 rfl rfl)
theorem dX4_sifts_44 : decode cX4_sifts 44 = .ok (.getfield 18, 3) := dk_180 0 18 (dk_at dksX4_sifts_1 20 rfl rfl)
theorem dX4_sifts_47 : decode cX4_sifts 47 = .ok (.iload_n 3, 1) := dk_29 (dk_at dksX4_sifts_1 23 rfl rfl)
theorem dX4_sifts_48 : decode cX4_sifts 48 = .ok (.iload_n 3, 1) := dk_29 (dk_at dksX4_sifts_2 0 rfl rfl)
theorem dX4_sifts_49 : decode cX4_sifts 49 = .ok (.aload_n 1, 1) := dk_43 (dk_at dksX4_sifts_2 1 rfl rfl)
theorem dX4_sifts_50 : decode cX4_sifts 50 = .ok (.getfield 130, 3) := dk_180 0 130 (dk_at dksX4_sifts_2 2 rfl rfl)
theorem dX4_sifts_53 : decode cX4_sifts 53 = .ok (.if_icmp .ge 26, 3) := dk_162 0 26 (dk_at dksX4_sifts_2 5 rfl rfl)
theorem dX4_sifts_56 : decode cX4_sifts 56 = .ok (.iload 4, 2) := dk_21 4 (dk_at dksX4_sifts_2 8 rfl rfl)
theorem dX4_sifts_58 : decode cX4_sifts 58 = .ok (.bipush 100, 2) := dk_16 100 (dk_at dksX4_sifts_2 10 rfl rfl)
theorem dX4_sifts_60 : decode cX4_sifts 60 = .ok (.aload_n 0, 1) := dk_42 (dk_at dksX4_sifts_2 12 rfl rfl)
theorem dX4_sifts_61 : decode cX4_sifts 61 = .ok (.getfield 40, 3) := dk_180 0 40 (dk_at dksX4_sifts_2 13 rfl rfl)
theorem dX4_sifts_64 : decode cX4_sifts 64 = .ok (.aload_n 1, 1) := dk_43 (dk_at dksX4_sifts_2 16 rfl rfl)
theorem dX4_sifts_65 : decode cX4_sifts 65 = .ok (.getfield 133, 3) := dk_180 0 133 (dk_at dksX4_sifts_2 17 rfl rfl)
theorem dX4_sifts_68 : decode cX4_sifts 68 = .ok (.imul, 1) := dk_104 (dk_at dksX4_sifts_2 20 rfl rfl)
theorem dX4_sifts_69 : decode cX4_sifts 69 = .ok (.invokestatic 97, 3) := dk_184 0 97 (dk_at dksX4_sifts_2 21 rfl rfl)
theorem dX4_sifts_72 : decode cX4_sifts 72 = .ok (.imul, 1) := dk_104 (dk_at dksX4_sifts_3 0 rfl rfl)
theorem dX4_sifts_73 : decode cX4_sifts 73 = .ok (.bipush 100, 2) := dk_16 100 (dk_at dksX4_sifts_3 1 rfl rfl)
theorem dX4_sifts_75 : decode cX4_sifts 75 = .ok (.idiv, 1) := dk_108 (dk_at dksX4_sifts_3 3 rfl rfl)
theorem dX4_sifts_76 : decode cX4_sifts 76 = .ok (.goto 5, 3) := dk_167 0 5 (dk_at dksX4_sifts_3 4 rfl rfl)
theorem dX4_sifts_79 : decode cX4_sifts 79 = .ok (.iload 4, 2) := dk_21 4 (dk_at dksX4_sifts_3 7 rfl rfl)
theorem dX4_sifts_81 : decode cX4_sifts 81 = .ok (.iastore, 1) := dk_79 (dk_at dksX4_sifts_3 9 rfl rfl)
theorem dX4_sifts_82 : decode cX4_sifts 82 = .ok (.aload_n 0, 1) := dk_42 (dk_at dksX4_sifts_3 10 rfl rfl)
theorem dX4_sifts_83 : decode cX4_sifts 83 = .ok (.getfield 15, 3) := dk_180 0 15 (dk_at dksX4_sifts_3 11 rfl rfl)
theorem dX4_sifts_86 : decode cX4_sifts 86 = .ok (.iload_n 3, 1) := dk_29 (dk_at dksX4_sifts_3 14 rfl rfl)
theorem dX4_sifts_87 : decode cX4_sifts 87 = .ok (.iload 4, 2) := dk_21 4 (dk_at dksX4_sifts_3 15 rfl rfl)
theorem dX4_sifts_89 : decode cX4_sifts 89 = .ok (.aload_n 0, 1) := dk_42 (dk_at dksX4_sifts_3 17 rfl rfl)
theorem dX4_sifts_90 : decode cX4_sifts 90 = .ok (.getfield 18, 3) := dk_180 0 18 (dk_at dksX4_sifts_3 18 rfl rfl)
theorem dX4_sifts_93 : decode cX4_sifts 93 = .ok (.iload_n 3, 1) := dk_29 (dk_at dksX4_sifts_3 21 rfl rfl)
theorem dX4_sifts_94 : decode cX4_sifts 94 = .ok (.iaload, 1) := dk_46 (dk_at dksX4_sifts_3 22 rfl rfl)
theorem dX4_sifts_95 : decode cX4_sifts 95 = .ok (.isub, 1) := dk_100 (dk_at dksX4_sifts_3 23 rfl rfl)
theorem dX4_sifts_96 : decode cX4_sifts 96 = .ok (.iastore, 1) := dk_79 (dk_at dksX4_sifts_4 0 rfl rfl)
theorem dX4_sifts_97 : decode cX4_sifts 97 = .ok (.aload_n 0, 1) := dk_42 (dk_at dksX4_sifts_4 1 rfl rfl)
theorem dX4_sifts_98 : decode cX4_sifts 98 = .ok (.getfield 21, 3) := dk_180 0 21 (dk_at dksX4_sifts_4 2 rfl rfl)
theorem dX4_sifts_101 : decode cX4_sifts 101 = .ok (.iload_n 3, 1) := dk_29 (dk_at dksX4_sifts_4 5 rfl rfl)
theorem dX4_sifts_102 : decode cX4_sifts 102 = .ok (.dup2, 1) := dk_92 (dk_at dksX4_sifts_4 6 rfl rfl)
theorem dX4_sifts_103 : decode cX4_sifts 103 = .ok (.iaload, 1) := dk_46 (dk_at dksX4_sifts_4 7 rfl rfl)
theorem dX4_sifts_104 : decode cX4_sifts 104 = .ok (.aload_n 0, 1) := dk_42 (dk_at dksX4_sifts_4 8 rfl rfl)
theorem dX4_sifts_105 : decode cX4_sifts 105 = .ok (.getfield 18, 3) := dk_180 0 18 (dk_at dksX4_sifts_4 9 rfl rfl)
theorem dX4_sifts_108 : decode cX4_sifts 108 = .ok (.iload_n 3, 1) := dk_29 (dk_at dksX4_sifts_4 12 rfl rfl)
theorem dX4_sifts_109 : decode cX4_sifts 109 = .ok (.iaload, 1) := dk_46 (dk_at dksX4_sifts_4 13 rfl rfl)
theorem dX4_sifts_110 : decode cX4_sifts 110 = .ok (.iadd, 1) := dk_96 (dk_at dksX4_sifts_4 14 rfl rfl)
theorem dX4_sifts_111 : decode cX4_sifts 111 = .ok (.iastore, 1) := dk_79 (dk_at dksX4_sifts_4 15 rfl rfl)
theorem dX4_sifts_112 : decode cX4_sifts 112 = .ok (.aload_n 0, 1) := dk_42 (dk_at dksX4_sifts_4 16 rfl rfl)
theorem dX4_sifts_113 : decode cX4_sifts 113 = .ok (.dup, 1) := dk_89 (dk_at dksX4_sifts_4 17 rfl rfl)
theorem dX4_sifts_114 : decode cX4_sifts 114 = .ok (.getfield 24, 3) := dk_180 0 24 (dk_at dksX4_sifts_4 18 rfl rfl)
theorem dX4_sifts_117 : decode cX4_sifts 117 = .ok (.aload_n 0, 1) := dk_42 (dk_at dksX4_sifts_4 21 rfl rfl)
theorem dX4_sifts_118 : decode cX4_sifts 118 = .ok (.getfield 18, 3) := dk_180 0 18 (dk_at dksX4_sifts_5 0 rfl rfl)
theorem dX4_sifts_121 : decode cX4_sifts 121 = .ok (.iload_n 3, 1) := dk_29 (dk_at dksX4_sifts_5 3 rfl rfl)
theorem dX4_sifts_122 : decode cX4_sifts 122 = .ok (.iaload, 1) := dk_46 (dk_at dksX4_sifts_5 4 rfl rfl)
theorem dX4_sifts_123 : decode cX4_sifts 123 = .ok (.iadd, 1) := dk_96 (dk_at dksX4_sifts_5 5 rfl rfl)
theorem dX4_sifts_124 : decode cX4_sifts 124 = .ok (.putfield 24, 3) := dk_181 0 24 (dk_at dksX4_sifts_5 6 rfl rfl)
theorem dX4_sifts_127 : decode cX4_sifts 127 = .ok (.iinc 3 1, 3) := dk_132 3 1 (dk_at dksX4_sifts_5 9 rfl rfl)
theorem dX4_sifts_130 : decode cX4_sifts 130 = .ok (.goto (-128), 3) := dk_167 255 128 (dk_at dksX4_sifts_5 12 rfl rfl)
theorem dX4_sifts_133 : decode cX4_sifts 133 = .ok (.return_, 1) := dk_177 (dk_at dksX4_sifts_5 15 rfl rfl)
abbrev cX4_start : ByteArray := prog_11_method_10_code
def yX4_start : MethodName := ⟨RX4, "start", "(LRoarMill$Works;III)V"⟩
def dkwX4_start_3 : List UInt8 := [177]
abbrev dktX4_start_3 : List UInt8 := dkwX4_start_3 ++ []
def dkwX4_start_2 : List UInt8 := [180, 0, 92, 21, 5, 46, 104, 79, 132, 5, 1, 167, 255, 222, 42, 43, 180, 0, 160, 5, 108, 181, 0, 24]
abbrev dktX4_start_2 : List UInt8 := dkwX4_start_2 ++ dktX4_start_3
def dkwX4_start_1 : List UInt8 := [21, 5, 43, 180, 0, 86, 162, 0, 31, 42, 180, 0, 9, 21, 5, 21, 4, 43, 180, 0, 75, 3, 50]
abbrev dktX4_start_1 : List UInt8 := dkwX4_start_1 ++ dktX4_start_2
def dkwX4_start_0 : List UInt8 := [42, 182, 0, 175, 42, 28, 181, 0, 40, 42, 29, 43, 180, 0, 106, 104, 7, 108, 181, 0, 37, 3, 54, 5]
abbrev dktX4_start_0 : List UInt8 := dkwX4_start_0 ++ dktX4_start_1
theorem dksX4_start_0 : cX4_start.data.toList.drop 0 = dktX4_start_0 := by decide +kernel
theorem dksX4_start_1 : cX4_start.data.toList.drop 24 = dktX4_start_1 := dk_seg dksX4_start_0 24 rfl rfl
theorem dksX4_start_2 : cX4_start.data.toList.drop 47 = dktX4_start_2 := dk_seg dksX4_start_1 23 rfl rfl
theorem dksX4_start_3 : cX4_start.data.toList.drop 71 = dktX4_start_3 := dk_seg dksX4_start_2 24 rfl rfl
theorem dX4_start_0 : decode cX4_start 0 = .ok (.aload_n 0, 1) := dk_42 (dk_at dksX4_start_0 0 rfl rfl)
theorem dX4_start_1 : decode cX4_start 1 = .ok (.invokevirtual 175, 3) := dk_182 0 175 (dk_at dksX4_start_0 1 rfl rfl)
theorem dX4_start_4 : decode cX4_start 4 = .ok (.aload_n 0, 1) := dk_42 (dk_at dksX4_start_0 4 rfl rfl)
theorem dX4_start_5 : decode cX4_start 5 = .ok (.iload_n 2, 1) := dk_28 (dk_at dksX4_start_0 5 rfl rfl)
theorem dX4_start_6 : decode cX4_start 6 = .ok (.putfield 40, 3) := dk_181 0 40 (dk_at dksX4_start_0 6 rfl rfl)
theorem dX4_start_9 : decode cX4_start 9 = .ok (.aload_n 0, 1) := dk_42 (dk_at dksX4_start_0 9 rfl rfl)
theorem dX4_start_10 : decode cX4_start 10 = .ok (.iload_n 3, 1) := dk_29 (dk_at dksX4_start_0 10 rfl rfl)
theorem dX4_start_11 : decode cX4_start 11 = .ok (.aload_n 1, 1) := dk_43 (dk_at dksX4_start_0 11 rfl rfl)
theorem dX4_start_12 : decode cX4_start 12 = .ok (.getfield 106, 3) := dk_180 0 106 (dk_at dksX4_start_0 12 rfl rfl)
theorem dX4_start_15 : decode cX4_start 15 = .ok (.imul, 1) := dk_104 (dk_at dksX4_start_0 15 rfl rfl)
theorem dX4_start_16 : decode cX4_start 16 = .ok (.iconst 4, 1) := dk_7 (dk_at dksX4_start_0 16 rfl rfl)
theorem dX4_start_17 : decode cX4_start 17 = .ok (.idiv, 1) := dk_108 (dk_at dksX4_start_0 17 rfl rfl)
theorem dX4_start_18 : decode cX4_start 18 = .ok (.putfield 37, 3) := dk_181 0 37 (dk_at dksX4_start_0 18 rfl rfl)
theorem dX4_start_21 : decode cX4_start 21 = .ok (.iconst 0, 1) := dk_3 (dk_at dksX4_start_0 21 rfl rfl)
theorem dX4_start_22 : decode cX4_start 22 = .ok (.istore 5, 2) := dk_54 5 (dk_at dksX4_start_0 22 rfl rfl)
theorem dX4_start_24 : decode cX4_start 24 = .ok (.iload 5, 2) := dk_21 5 (dk_at dksX4_start_1 0 rfl rfl)
theorem dX4_start_26 : decode cX4_start 26 = .ok (.aload_n 1, 1) := dk_43 (dk_at dksX4_start_1 2 rfl rfl)
theorem dX4_start_27 : decode cX4_start 27 = .ok (.getfield 86, 3) := dk_180 0 86 (dk_at dksX4_start_1 3 rfl rfl)
theorem dX4_start_30 : decode cX4_start 30 = .ok (.if_icmp .ge 31, 3) := dk_162 0 31 (dk_at dksX4_start_1 6 rfl rfl)
theorem dX4_start_33 : decode cX4_start 33 = .ok (.aload_n 0, 1) := dk_42 (dk_at dksX4_start_1 9 rfl rfl)
theorem dX4_start_34 : decode cX4_start 34 = .ok (.getfield 9, 3) := dk_180 0 9 (dk_at dksX4_start_1 10 rfl rfl)
theorem dX4_start_37 : decode cX4_start 37 = .ok (.iload 5, 2) := dk_21 5 (dk_at dksX4_start_1 13 rfl rfl)
theorem dX4_start_39 : decode cX4_start 39 = .ok (.iload 4, 2) := dk_21 4 (dk_at dksX4_start_1 15 rfl rfl)
theorem dX4_start_41 : decode cX4_start 41 = .ok (.aload_n 1, 1) := dk_43 (dk_at dksX4_start_1 17 rfl rfl)
theorem dX4_start_42 : decode cX4_start 42 = .ok (.getfield 75, 3) := dk_180 0 75 (dk_at dksX4_start_1 18 rfl rfl)
theorem dX4_start_45 : decode cX4_start 45 = .ok (.iconst 0, 1) := dk_3 (dk_at dksX4_start_1 21 rfl rfl)
theorem dX4_start_46 : decode cX4_start 46 = .ok (.aaload, 1) := dk_50 (dk_at dksX4_start_1 22 rfl rfl)
theorem dX4_start_47 : decode cX4_start 47 = .ok (.getfield 92, 3) := dk_180 0 92 (dk_at dksX4_start_2 0 rfl rfl)
theorem dX4_start_50 : decode cX4_start 50 = .ok (.iload 5, 2) := dk_21 5 (dk_at dksX4_start_2 3 rfl rfl)
theorem dX4_start_52 : decode cX4_start 52 = .ok (.iaload, 1) := dk_46 (dk_at dksX4_start_2 5 rfl rfl)
theorem dX4_start_53 : decode cX4_start 53 = .ok (.imul, 1) := dk_104 (dk_at dksX4_start_2 6 rfl rfl)
theorem dX4_start_54 : decode cX4_start 54 = .ok (.iastore, 1) := dk_79 (dk_at dksX4_start_2 7 rfl rfl)
theorem dX4_start_55 : decode cX4_start 55 = .ok (.iinc 5 1, 3) := dk_132 5 1 (dk_at dksX4_start_2 8 rfl rfl)
theorem dX4_start_58 : decode cX4_start 58 = .ok (.goto (-34), 3) := dk_167 255 222 (dk_at dksX4_start_2 11 rfl rfl)
theorem dX4_start_61 : decode cX4_start 61 = .ok (.aload_n 0, 1) := dk_42 (dk_at dksX4_start_2 14 rfl rfl)
theorem dX4_start_62 : decode cX4_start 62 = .ok (.aload_n 1, 1) := dk_43 (dk_at dksX4_start_2 15 rfl rfl)
theorem dX4_start_63 : decode cX4_start 63 = .ok (.getfield 160, 3) := dk_180 0 160 (dk_at dksX4_start_2 16 rfl rfl)
theorem dX4_start_66 : decode cX4_start 66 = .ok (.iconst 2, 1) := dk_5 (dk_at dksX4_start_2 19 rfl rfl)
theorem dX4_start_67 : decode cX4_start 67 = .ok (.idiv, 1) := dk_108 (dk_at dksX4_start_2 20 rfl rfl)
theorem dX4_start_68 : decode cX4_start 68 = .ok (.putfield 24, 3) := dk_181 0 24 (dk_at dksX4_start_2 21 rfl rfl)
theorem dX4_start_71 : decode cX4_start 71 = .ok (.return_, 1) := dk_177 (dk_at dksX4_start_3 0 rfl rfl)
abbrev cX4_become : ByteArray := prog_11_method_3_code
def yX4_become : MethodName := ⟨RX4, "become", "(LRoarMill$State;)V"⟩
def dkwX4_become_7 : List UInt8 := [177]
abbrev dktX4_become_7 : List UInt8 := dkwX4_become_7 ++ []
def dkwX4_become_6 : List UInt8 := [42, 43, 180, 0, 58, 181, 0, 58, 42, 43, 180, 0, 61, 181, 0, 61, 42, 43, 180, 0, 65, 181, 0, 65]
abbrev dktX4_become_6 : List UInt8 := dkwX4_become_6 ++ dktX4_become_7
def dkwX4_become_5 : List UInt8 := [42, 43, 180, 0, 49, 181, 0, 49, 42, 43, 180, 0, 52, 181, 0, 52, 42, 43, 180, 0, 55, 181, 0, 55]
abbrev dktX4_become_5 : List UInt8 := dkwX4_become_5 ++ dktX4_become_6
def dkwX4_become_4 : List UInt8 := [42, 43, 180, 0, 40, 181, 0, 40, 42, 43, 180, 0, 43, 181, 0, 43, 42, 43, 180, 0, 46, 181, 0, 46]
abbrev dktX4_become_4 : List UInt8 := dkwX4_become_4 ++ dktX4_become_5
def dkwX4_become_3 : List UInt8 := [42, 43, 180, 0, 31, 181, 0, 31, 42, 43, 180, 0, 34, 181, 0, 34, 42, 43, 180, 0, 37, 181, 0, 37]
abbrev dktX4_become_3 : List UInt8 := dkwX4_become_3 ++ dktX4_become_4
def dkwX4_become_2 : List UInt8 := [180, 0, 21, 3, 8, 184, 0, 69, 42, 43, 180, 0, 24, 181, 0, 24, 42, 43, 180, 0, 28, 181, 0, 28]
abbrev dktX4_become_2 : List UInt8 := dkwX4_become_2 ++ dktX4_become_3
def dkwX4_become_1 : List UInt8 := [8, 184, 0, 69, 43, 180, 0, 18, 3, 42, 180, 0, 18, 3, 8, 184, 0, 69, 43, 180, 0, 21, 3, 42]
abbrev dktX4_become_1 : List UInt8 := dkwX4_become_1 ++ dktX4_become_2
def dkwX4_become_0 : List UInt8 := [43, 180, 0, 9, 3, 42, 180, 0, 9, 3, 8, 184, 0, 69, 43, 180, 0, 15, 3, 42, 180, 0, 15, 3]
abbrev dktX4_become_0 : List UInt8 := dkwX4_become_0 ++ dktX4_become_1
theorem dksX4_become_0 : cX4_become.data.toList.drop 0 = dktX4_become_0 := by decide +kernel
theorem dksX4_become_1 : cX4_become.data.toList.drop 24 = dktX4_become_1 := dk_seg dksX4_become_0 24 rfl rfl
theorem dksX4_become_2 : cX4_become.data.toList.drop 48 = dktX4_become_2 := dk_seg dksX4_become_1 24 rfl rfl
theorem dksX4_become_3 : cX4_become.data.toList.drop 72 = dktX4_become_3 := dk_seg dksX4_become_2 24 rfl rfl
theorem dksX4_become_4 : cX4_become.data.toList.drop 96 = dktX4_become_4 := dk_seg dksX4_become_3 24 rfl rfl
theorem dksX4_become_5 : cX4_become.data.toList.drop 120 = dktX4_become_5 := dk_seg dksX4_become_4 24 rfl rfl
theorem dksX4_become_6 : cX4_become.data.toList.drop 144 = dktX4_become_6 := dk_seg dksX4_become_5 24 rfl rfl
theorem dksX4_become_7 : cX4_become.data.toList.drop 168 = dktX4_become_7 := dk_seg dksX4_become_6 24 rfl rfl
theorem dX4_become_0 : decode cX4_become 0 = .ok (.aload_n 1, 1) := dk_43 (dk_at dksX4_become_0 0 rfl rfl)
theorem dX4_become_1 : decode cX4_become 1 = .ok (.getfield 9, 3) := dk_180 0 9 (dk_at dksX4_become_0 1 rfl rfl)
theorem dX4_become_4 : decode cX4_become 4 = .ok (.iconst 0, 1) := dk_3 (dk_at dksX4_become_0 4 rfl rfl)
theorem dX4_become_5 : decode cX4_become 5 = .ok (.aload_n 0, 1) := dk_42 (dk_at dksX4_become_0 5 rfl rfl)
theorem dX4_become_6 : decode cX4_become 6 = .ok (.getfield 9, 3) := dk_180 0 9 (dk_at dksX4_become_0 6 rfl rfl)
theorem dX4_become_9 : decode cX4_become 9 = .ok (.iconst 0, 1) := dk_3 (dk_at dksX4_become_0 9 rfl rfl)
theorem dX4_become_10 : decode cX4_become 10 = .ok (.iconst 5, 1) := dk_8 (dk_at dksX4_become_0 10 rfl rfl)
theorem dX4_become_11 : decode cX4_become 11 = .ok (.invokestatic 69, 3) := dk_184 0 69 (dk_at dksX4_become_0 11 rfl rfl)
theorem dX4_become_14 : decode cX4_become 14 = .ok (.aload_n 1, 1) := dk_43 (dk_at dksX4_become_0 14 rfl rfl)
theorem dX4_become_15 : decode cX4_become 15 = .ok (.getfield 15, 3) := dk_180 0 15 (dk_at dksX4_become_0 15 rfl rfl)
theorem dX4_become_18 : decode cX4_become 18 = .ok (.iconst 0, 1) := dk_3 (dk_at dksX4_become_0 18 rfl rfl)
theorem dX4_become_19 : decode cX4_become 19 = .ok (.aload_n 0, 1) := dk_42 (dk_at dksX4_become_0 19 rfl rfl)
theorem dX4_become_20 : decode cX4_become 20 = .ok (.getfield 15, 3) := dk_180 0 15 (dk_at dksX4_become_0 20 rfl rfl)
theorem dX4_become_23 : decode cX4_become 23 = .ok (.iconst 0, 1) := dk_3 (dk_at dksX4_become_0 23 rfl rfl)
theorem dX4_become_24 : decode cX4_become 24 = .ok (.iconst 5, 1) := dk_8 (dk_at dksX4_become_1 0 rfl rfl)
theorem dX4_become_25 : decode cX4_become 25 = .ok (.invokestatic 69, 3) := dk_184 0 69 (dk_at dksX4_become_1 1 rfl rfl)
theorem dX4_become_28 : decode cX4_become 28 = .ok (.aload_n 1, 1) := dk_43 (dk_at dksX4_become_1 4 rfl rfl)
theorem dX4_become_29 : decode cX4_become 29 = .ok (.getfield 18, 3) := dk_180 0 18 (dk_at dksX4_become_1 5 rfl rfl)
theorem dX4_become_32 : decode cX4_become 32 = .ok (.iconst 0, 1) := dk_3 (dk_at dksX4_become_1 8 rfl rfl)
theorem dX4_become_33 : decode cX4_become 33 = .ok (.aload_n 0, 1) := dk_42 (dk_at dksX4_become_1 9 rfl rfl)
theorem dX4_become_34 : decode cX4_become 34 = .ok (.getfield 18, 3) := dk_180 0 18 (dk_at dksX4_become_1 10 rfl rfl)
theorem dX4_become_37 : decode cX4_become 37 = .ok (.iconst 0, 1) := dk_3 (dk_at dksX4_become_1 13 rfl rfl)
theorem dX4_become_38 : decode cX4_become 38 = .ok (.iconst 5, 1) := dk_8 (dk_at dksX4_become_1 14 rfl rfl)
theorem dX4_become_39 : decode cX4_become 39 = .ok (.invokestatic 69, 3) := dk_184 0 69 (dk_at dksX4_become_1 15 rfl rfl)
theorem dX4_become_42 : decode cX4_become 42 = .ok (.aload_n 1, 1) := dk_43 (dk_at dksX4_become_1 18 rfl rfl)
theorem dX4_become_43 : decode cX4_become 43 = .ok (.getfield 21, 3) := dk_180 0 21 (dk_at dksX4_become_1 19 rfl rfl)
theorem dX4_become_46 : decode cX4_become 46 = .ok (.iconst 0, 1) := dk_3 (dk_at dksX4_become_1 22 rfl rfl)
theorem dX4_become_47 : decode cX4_become 47 = .ok (.aload_n 0, 1) := dk_42 (dk_at dksX4_become_1 23 rfl rfl)
theorem dX4_become_48 : decode cX4_become 48 = .ok (.getfield 21, 3) := dk_180 0 21 (dk_at dksX4_become_2 0 rfl rfl)
theorem dX4_become_51 : decode cX4_become 51 = .ok (.iconst 0, 1) := dk_3 (dk_at dksX4_become_2 3 rfl rfl)
theorem dX4_become_52 : decode cX4_become 52 = .ok (.iconst 5, 1) := dk_8 (dk_at dksX4_become_2 4 rfl rfl)
theorem dX4_become_53 : decode cX4_become 53 = .ok (.invokestatic 69, 3) := dk_184 0 69 (dk_at dksX4_become_2 5 rfl rfl)
theorem dX4_become_56 : decode cX4_become 56 = .ok (.aload_n 0, 1) := dk_42 (dk_at dksX4_become_2 8 rfl rfl)
theorem dX4_become_57 : decode cX4_become 57 = .ok (.aload_n 1, 1) := dk_43 (dk_at dksX4_become_2 9 rfl rfl)
theorem dX4_become_58 : decode cX4_become 58 = .ok (.getfield 24, 3) := dk_180 0 24 (dk_at dksX4_become_2 10 rfl rfl)
theorem dX4_become_61 : decode cX4_become 61 = .ok (.putfield 24, 3) := dk_181 0 24 (dk_at dksX4_become_2 13 rfl rfl)
theorem dX4_become_64 : decode cX4_become 64 = .ok (.aload_n 0, 1) := dk_42 (dk_at dksX4_become_2 16 rfl rfl)
theorem dX4_become_65 : decode cX4_become 65 = .ok (.aload_n 1, 1) := dk_43 (dk_at dksX4_become_2 17 rfl rfl)
theorem dX4_become_66 : decode cX4_become 66 = .ok (.getfield 28, 3) := dk_180 0 28 (dk_at dksX4_become_2 18 rfl rfl)
theorem dX4_become_69 : decode cX4_become 69 = .ok (.putfield 28, 3) := dk_181 0 28 (dk_at dksX4_become_2 21 rfl rfl)
theorem dX4_become_72 : decode cX4_become 72 = .ok (.aload_n 0, 1) := dk_42 (dk_at dksX4_become_3 0 rfl rfl)
theorem dX4_become_73 : decode cX4_become 73 = .ok (.aload_n 1, 1) := dk_43 (dk_at dksX4_become_3 1 rfl rfl)
theorem dX4_become_74 : decode cX4_become 74 = .ok (.getfield 31, 3) := dk_180 0 31 (dk_at dksX4_become_3 2 rfl rfl)
theorem dX4_become_77 : decode cX4_become 77 = .ok (.putfield 31, 3) := dk_181 0 31 (dk_at dksX4_become_3 5 rfl rfl)
theorem dX4_become_80 : decode cX4_become 80 = .ok (.aload_n 0, 1) := dk_42 (dk_at dksX4_become_3 8 rfl rfl)
theorem dX4_become_81 : decode cX4_become 81 = .ok (.aload_n 1, 1) := dk_43 (dk_at dksX4_become_3 9 rfl rfl)
theorem dX4_become_82 : decode cX4_become 82 = .ok (.getfield 34, 3) := dk_180 0 34 (dk_at dksX4_become_3 10 rfl rfl)
theorem dX4_become_85 : decode cX4_become 85 = .ok (.putfield 34, 3) := dk_181 0 34 (dk_at dksX4_become_3 13 rfl rfl)
theorem dX4_become_88 : decode cX4_become 88 = .ok (.aload_n 0, 1) := dk_42 (dk_at dksX4_become_3 16 rfl rfl)
theorem dX4_become_89 : decode cX4_become 89 = .ok (.aload_n 1, 1) := dk_43 (dk_at dksX4_become_3 17 rfl rfl)
theorem dX4_become_90 : decode cX4_become 90 = .ok (.getfield 37, 3) := dk_180 0 37 (dk_at dksX4_become_3 18 rfl rfl)
theorem dX4_become_93 : decode cX4_become 93 = .ok (.putfield 37, 3) := dk_181 0 37 (dk_at dksX4_become_3 21 rfl rfl)
theorem dX4_become_96 : decode cX4_become 96 = .ok (.aload_n 0, 1) := dk_42 (dk_at dksX4_become_4 0 rfl rfl)
theorem dX4_become_97 : decode cX4_become 97 = .ok (.aload_n 1, 1) := dk_43 (dk_at dksX4_become_4 1 rfl rfl)
theorem dX4_become_98 : decode cX4_become 98 = .ok (.getfield 40, 3) := dk_180 0 40 (dk_at dksX4_become_4 2 rfl rfl)
theorem dX4_become_101 : decode cX4_become 101 = .ok (.putfield 40, 3) := dk_181 0 40 (dk_at dksX4_become_4 5 rfl rfl)
theorem dX4_become_104 : decode cX4_become 104 = .ok (.aload_n 0, 1) := dk_42 (dk_at dksX4_become_4 8 rfl rfl)
theorem dX4_become_105 : decode cX4_become 105 = .ok (.aload_n 1, 1) := dk_43 (dk_at dksX4_become_4 9 rfl rfl)
theorem dX4_become_106 : decode cX4_become 106 = .ok (.getfield 43, 3) := dk_180 0 43 (dk_at dksX4_become_4 10 rfl rfl)
theorem dX4_become_109 : decode cX4_become 109 = .ok (.putfield 43, 3) := dk_181 0 43 (dk_at dksX4_become_4 13 rfl rfl)
theorem dX4_become_112 : decode cX4_become 112 = .ok (.aload_n 0, 1) := dk_42 (dk_at dksX4_become_4 16 rfl rfl)
theorem dX4_become_113 : decode cX4_become 113 = .ok (.aload_n 1, 1) := dk_43 (dk_at dksX4_become_4 17 rfl rfl)
theorem dX4_become_114 : decode cX4_become 114 = .ok (.getfield 46, 3) := dk_180 0 46 (dk_at dksX4_become_4 18 rfl rfl)
theorem dX4_become_117 : decode cX4_become 117 = .ok (.putfield 46, 3) := dk_181 0 46 (dk_at dksX4_become_4 21 rfl rfl)
theorem dX4_become_120 : decode cX4_become 120 = .ok (.aload_n 0, 1) := dk_42 (dk_at dksX4_become_5 0 rfl rfl)
theorem dX4_become_121 : decode cX4_become 121 = .ok (.aload_n 1, 1) := dk_43 (dk_at dksX4_become_5 1 rfl rfl)
theorem dX4_become_122 : decode cX4_become 122 = .ok (.getfield 49, 3) := dk_180 0 49 (dk_at dksX4_become_5 2 rfl rfl)
theorem dX4_become_125 : decode cX4_become 125 = .ok (.putfield 49, 3) := dk_181 0 49 (dk_at dksX4_become_5 5 rfl rfl)
theorem dX4_become_128 : decode cX4_become 128 = .ok (.aload_n 0, 1) := dk_42 (dk_at dksX4_become_5 8 rfl rfl)
theorem dX4_become_129 : decode cX4_become 129 = .ok (.aload_n 1, 1) := dk_43 (dk_at dksX4_become_5 9 rfl rfl)
theorem dX4_become_130 : decode cX4_become 130 = .ok (.getfield 52, 3) := dk_180 0 52 (dk_at dksX4_become_5 10 rfl rfl)
theorem dX4_become_133 : decode cX4_become 133 = .ok (.putfield 52, 3) := dk_181 0 52 (dk_at dksX4_become_5 13 rfl rfl)
theorem dX4_become_136 : decode cX4_become 136 = .ok (.aload_n 0, 1) := dk_42 (dk_at dksX4_become_5 16 rfl rfl)
theorem dX4_become_137 : decode cX4_become 137 = .ok (.aload_n 1, 1) := dk_43 (dk_at dksX4_become_5 17 rfl rfl)
theorem dX4_become_138 : decode cX4_become 138 = .ok (.getfield 55, 3) := dk_180 0 55 (dk_at dksX4_become_5 18 rfl rfl)
theorem dX4_become_141 : decode cX4_become 141 = .ok (.putfield 55, 3) := dk_181 0 55 (dk_at dksX4_become_5 21 rfl rfl)
theorem dX4_become_144 : decode cX4_become 144 = .ok (.aload_n 0, 1) := dk_42 (dk_at dksX4_become_6 0 rfl rfl)
theorem dX4_become_145 : decode cX4_become 145 = .ok (.aload_n 1, 1) := dk_43 (dk_at dksX4_become_6 1 rfl rfl)
theorem dX4_become_146 : decode cX4_become 146 = .ok (.getfield 58, 3) := dk_180 0 58 (dk_at dksX4_become_6 2 rfl rfl)
theorem dX4_become_149 : decode cX4_become 149 = .ok (.putfield 58, 3) := dk_181 0 58 (dk_at dksX4_become_6 5 rfl rfl)
theorem dX4_become_152 : decode cX4_become 152 = .ok (.aload_n 0, 1) := dk_42 (dk_at dksX4_become_6 8 rfl rfl)
theorem dX4_become_153 : decode cX4_become 153 = .ok (.aload_n 1, 1) := dk_43 (dk_at dksX4_become_6 9 rfl rfl)
theorem dX4_become_154 : decode cX4_become 154 = .ok (.getfield 61, 3) := dk_180 0 61 (dk_at dksX4_become_6 10 rfl rfl)
theorem dX4_become_157 : decode cX4_become 157 = .ok (.putfield 61, 3) := dk_181 0 61 (dk_at dksX4_become_6 13 rfl rfl)
theorem dX4_become_160 : decode cX4_become 160 = .ok (.aload_n 0, 1) := dk_42 (dk_at dksX4_become_6 16 rfl rfl)
theorem dX4_become_161 : decode cX4_become 161 = .ok (.aload_n 1, 1) := dk_43 (dk_at dksX4_become_6 17 rfl rfl)
theorem dX4_become_162 : decode cX4_become 162 = .ok (.getfield 65, 3) := dk_180 0 65 (dk_at dksX4_become_6 18 rfl rfl)
theorem dX4_become_165 : decode cX4_become 165 = .ok (.putfield 65, 3) := dk_181 0 65 (dk_at dksX4_become_6 21 rfl rfl)
theorem dX4_become_168 : decode cX4_become 168 = .ok (.return_, 1) := dk_177 (dk_at dksX4_become_7 0 rfl rfl)
theorem q89 : (Jvm.Cond.initialized "RoarMill$State") ∈ lw_all := lw_g (lw_at lw_m1 7 rfl) rfl
theorem q228 : (Jvm.Cond.instantiable "RoarMill$State" (18 : Nat)) ∈ lw_all := lw_g (lw_at lw_m1 146 rfl) rfl
theorem q230 : (Jvm.Cond.instanceMethod ({ cls := "RoarMill$State", name := "<init>", desc := "()V" } : Jvm.MethodName)) ∈ lw_all := lw_g (lw_at lw_m1 148 rfl) rfl
theorem q231 : (Jvm.Cond.code ({ cls := "RoarMill$State", name := "<init>", desc := "()V" } : Jvm.MethodName) prog_11_method_1_code (1 : Nat) (Option.none : Option Jvm.ClassFile.FieldType)) ∈ lw_all := lw_g (lw_at lw_m1 149 rfl) rfl
theorem q232 : (Jvm.Cond.methodLink "RoarMill$State" (3 : Nat) ({ cls := "java/lang/Object", name := "<init>", desc := "()V" } : Jvm.MethodName)) ∈ lw_all := lw_g (lw_at lw_m1 150 rfl) rfl
theorem q233 : (Jvm.Cond.fieldLink "RoarMill$State" (9 : Nat) "RoarMill$State" "held" "[I") ∈ lw_all := lw_g (lw_at lw_m1 151 rfl) rfl
theorem q235 : (Jvm.Cond.fieldLink "RoarMill$State" (15 : Nat) "RoarMill$State" "back" "[I") ∈ lw_all := lw_g (lw_at lw_m1 153 rfl) rfl
theorem q237 : (Jvm.Cond.fieldLink "RoarMill$State" (18 : Nat) "RoarMill$State" "passed" "[I") ∈ lw_all := lw_g (lw_at lw_m1 155 rfl) rfl
theorem q239 : (Jvm.Cond.fieldLink "RoarMill$State" (21 : Nat) "RoarMill$State" "passedAll" "[I") ∈ lw_all := lw_g (lw_at lw_m1 157 rfl) rfl
theorem q241 : (Jvm.Cond.fieldLink "RoarMill$State" (24 : Nat) "RoarMill$State" "inBin" "I") ∈ lw_all := lw_g (lw_at lw_m1 159 rfl) rfl
theorem q243 : (Jvm.Cond.fieldLink "RoarMill$State" (28 : Nat) "RoarMill$State" "spilt" "I") ∈ lw_all := lw_g (lw_at lw_m1 161 rfl) rfl
theorem q245 : (Jvm.Cond.fieldLink "RoarMill$State" (31 : Nat) "RoarMill$State" "drawn" "I") ∈ lw_all := lw_g (lw_at lw_m1 163 rfl) rfl
theorem q247 : (Jvm.Cond.fieldLink "RoarMill$State" (34 : Nat) "RoarMill$State" "lacking" "I") ∈ lw_all := lw_g (lw_at lw_m1 165 rfl) rfl
theorem q249 : (Jvm.Cond.fieldLink "RoarMill$State" (37 : Nat) "RoarMill$State" "age" "I") ∈ lw_all := lw_g (lw_at lw_m1 167 rfl) rfl
theorem q251 : (Jvm.Cond.fieldLink "RoarMill$State" (40 : Nat) "RoarMill$State" "tears" "I") ∈ lw_all := lw_g (lw_at lw_m1 169 rfl) rfl
theorem q253 : (Jvm.Cond.fieldLink "RoarMill$State" (43 : Nat) "RoarMill$State" "now" "I") ∈ lw_all := lw_g (lw_at lw_m1 171 rfl) rfl
theorem q255 : (Jvm.Cond.fieldLink "RoarMill$State" (46 : Nat) "RoarMill$State" "full" "I") ∈ lw_all := lw_g (lw_at lw_m1 173 rfl) rfl
theorem q257 : (Jvm.Cond.fieldLink "RoarMill$State" (49 : Nat) "RoarMill$State" "effect" "I") ∈ lw_all := lw_g (lw_at lw_m1 175 rfl) rfl
theorem q259 : (Jvm.Cond.fieldLink "RoarMill$State" (52 : Nat) "RoarMill$State" "power" "I") ∈ lw_all := lw_g (lw_at lw_m1 177 rfl) rfl
theorem q261 : (Jvm.Cond.fieldLink "RoarMill$State" (55 : Nat) "RoarMill$State" "roar" "I") ∈ lw_all := lw_g (lw_at lw_m1 179 rfl) rfl
theorem q263 : (Jvm.Cond.fieldLink "RoarMill$State" (58 : Nat) "RoarMill$State" "came" "I") ∈ lw_all := lw_g (lw_at lw_m1 181 rfl) rfl
theorem q265 : (Jvm.Cond.fieldLink "RoarMill$State" (61 : Nat) "RoarMill$State" "cost" "J") ∈ lw_all := lw_g (lw_at lw_m1 183 rfl) rfl
theorem q267 : (Jvm.Cond.fieldLink "RoarMill$State" (65 : Nat) "RoarMill$State" "stands" "Z") ∈ lw_all := lw_g (lw_at lw_m1 185 rfl) rfl
theorem q269 : (Jvm.Cond.laysFinal "RoarMill$State" "RoarMill$State" "held" "[I") ∈ lw_all := lw_g (lw_at lw_m1 187 rfl) rfl
theorem q270 : (Jvm.Cond.soleField "RoarMill$State" "held") ∈ lw_all := lw_g (lw_at lw_m1 188 rfl) rfl
theorem q271 : (Jvm.Cond.laysFinal "RoarMill$State" "RoarMill$State" "back" "[I") ∈ lw_all := lw_g (lw_at lw_m1 189 rfl) rfl
theorem q272 : (Jvm.Cond.soleField "RoarMill$State" "back") ∈ lw_all := lw_g (lw_at lw_m1 190 rfl) rfl
theorem q273 : (Jvm.Cond.laysFinal "RoarMill$State" "RoarMill$State" "passed" "[I") ∈ lw_all := lw_g (lw_at lw_m1 191 rfl) rfl
theorem q274 : (Jvm.Cond.soleField "RoarMill$State" "passed") ∈ lw_all := lw_g (lw_at lw_m1 192 rfl) rfl
theorem q275 : (Jvm.Cond.laysFinal "RoarMill$State" "RoarMill$State" "passedAll" "[I") ∈ lw_all := lw_g (lw_at lw_m1 193 rfl) rfl
theorem q276 : (Jvm.Cond.soleField "RoarMill$State" "passedAll") ∈ lw_all := lw_g (lw_at lw_m1 194 rfl) rfl
theorem q277 : (Jvm.Cond.lays "RoarMill$State" "RoarMill$State" "inBin" "I") ∈ lw_all := lw_g (lw_at lw_m1 195 rfl) rfl
theorem q278 : (Jvm.Cond.soleField "RoarMill$State" "inBin") ∈ lw_all := lw_g (lw_at lw_m1 196 rfl) rfl
theorem q279 : (Jvm.Cond.lays "RoarMill$State" "RoarMill$State" "spilt" "I") ∈ lw_all := lw_g (lw_at lw_m1 197 rfl) rfl
theorem q280 : (Jvm.Cond.soleField "RoarMill$State" "spilt") ∈ lw_all := lw_g (lw_at lw_m1 198 rfl) rfl
theorem q281 : (Jvm.Cond.lays "RoarMill$State" "RoarMill$State" "drawn" "I") ∈ lw_all := lw_g (lw_at lw_m1 199 rfl) rfl
theorem q282 : (Jvm.Cond.soleField "RoarMill$State" "drawn") ∈ lw_all := lw_g (lw_at lw_m1 200 rfl) rfl
theorem q283 : (Jvm.Cond.lays "RoarMill$State" "RoarMill$State" "lacking" "I") ∈ lw_all := lw_g (lw_at lw_m1 201 rfl) rfl
theorem q284 : (Jvm.Cond.soleField "RoarMill$State" "lacking") ∈ lw_all := lw_g (lw_at lw_m1 202 rfl) rfl
theorem q285 : (Jvm.Cond.lays "RoarMill$State" "RoarMill$State" "age" "I") ∈ lw_all := lw_g (lw_at lw_m1 203 rfl) rfl
theorem q286 : (Jvm.Cond.soleField "RoarMill$State" "age") ∈ lw_all := lw_g (lw_at lw_m1 204 rfl) rfl
theorem q287 : (Jvm.Cond.lays "RoarMill$State" "RoarMill$State" "tears" "I") ∈ lw_all := lw_g (lw_at lw_m1 205 rfl) rfl
theorem q288 : (Jvm.Cond.soleField "RoarMill$State" "tears") ∈ lw_all := lw_g (lw_at lw_m1 206 rfl) rfl
theorem q289 : (Jvm.Cond.lays "RoarMill$State" "RoarMill$State" "now" "I") ∈ lw_all := lw_g (lw_at lw_m1 207 rfl) rfl
theorem q290 : (Jvm.Cond.soleField "RoarMill$State" "now") ∈ lw_all := lw_g (lw_at lw_m1 208 rfl) rfl
theorem q291 : (Jvm.Cond.lays "RoarMill$State" "RoarMill$State" "full" "I") ∈ lw_all := lw_g (lw_at lw_m1 209 rfl) rfl
theorem q292 : (Jvm.Cond.soleField "RoarMill$State" "full") ∈ lw_all := lw_g (lw_at lw_m1 210 rfl) rfl
theorem q293 : (Jvm.Cond.lays "RoarMill$State" "RoarMill$State" "effect" "I") ∈ lw_all := lw_g (lw_at lw_m1 211 rfl) rfl
theorem q294 : (Jvm.Cond.soleField "RoarMill$State" "effect") ∈ lw_all := lw_g (lw_at lw_m1 212 rfl) rfl
theorem q295 : (Jvm.Cond.lays "RoarMill$State" "RoarMill$State" "power" "I") ∈ lw_all := lw_g (lw_at lw_m1 213 rfl) rfl
theorem q296 : (Jvm.Cond.soleField "RoarMill$State" "power") ∈ lw_all := lw_g (lw_at lw_m1 214 rfl) rfl
theorem q297 : (Jvm.Cond.lays "RoarMill$State" "RoarMill$State" "roar" "I") ∈ lw_all := lw_g (lw_at lw_m1 215 rfl) rfl
theorem q298 : (Jvm.Cond.soleField "RoarMill$State" "roar") ∈ lw_all := lw_g (lw_at lw_m1 216 rfl) rfl
theorem q299 : (Jvm.Cond.lays "RoarMill$State" "RoarMill$State" "came" "I") ∈ lw_all := lw_g (lw_at lw_m1 217 rfl) rfl
theorem q300 : (Jvm.Cond.soleField "RoarMill$State" "came") ∈ lw_all := lw_g (lw_at lw_m1 218 rfl) rfl
theorem q301 : (Jvm.Cond.lays "RoarMill$State" "RoarMill$State" "cost" "J") ∈ lw_all := lw_g (lw_at lw_m1 219 rfl) rfl
theorem q302 : (Jvm.Cond.soleField "RoarMill$State" "cost") ∈ lw_all := lw_g (lw_at lw_m1 220 rfl) rfl
theorem q303 : (Jvm.Cond.lays "RoarMill$State" "RoarMill$State" "stands" "Z") ∈ lw_all := lw_g (lw_at lw_m1 221 rfl) rfl
theorem q304 : (Jvm.Cond.soleField "RoarMill$State" "stands") ∈ lw_all := lw_g (lw_at lw_m1 222 rfl) rfl
theorem q305 : (Jvm.Cond.superclass "RoarMill$State" "java/lang/Object") ∈ lw_all := lw_g (lw_at lw_m1 223 rfl) rfl
theorem q314 : (Jvm.Cond.fieldLink "RoarMill$State" (89 : Nat) "RoarMill$Settings" "rate" "I") ∈ lw_all := lw_g (lw_at lw_m1 232 rfl) rfl
theorem q317 : (Jvm.Cond.fieldLink "RoarMill$State" (127 : Nat) "RoarMill$Settings" "water" "I") ∈ lw_all := lw_g (lw_at lw_m1 235 rfl) rfl
theorem q320 : (Jvm.Cond.fieldLink "RoarMill$State" (81 : Nat) "RoarMill$Settings" "ore" "I") ∈ lw_all := lw_g (lw_at lw_m1 238 rfl) rfl
theorem q492 : (Jvm.Cond.fieldLink "RoarMill$State" (115 : Nat) "RoarMill$Works" "sizes" "[LRoarMill$Size;") ∈ lw_all := lw_g (lw_at lw_m2 170 rfl) rfl
theorem q495 : (Jvm.Cond.fieldLink "RoarMill$State" (75 : Nat) "RoarMill$Works" "ores" "[LRoarMill$Ore;") ∈ lw_all := lw_g (lw_at lw_m2 173 rfl) rfl
theorem q498 : (Jvm.Cond.fieldLink "RoarMill$State" (169 : Nat) "RoarMill$Works" "prices" "[I") ∈ lw_all := lw_g (lw_at lw_m2 176 rfl) rfl
theorem q502 : (Jvm.Cond.fieldLink "RoarMill$State" (86 : Nat) "RoarMill$Works" "sizeMany" "I") ∈ lw_all := lw_g (lw_at lw_m2 180 rfl) rfl
theorem q509 : (Jvm.Cond.fieldLink "RoarMill$State" (172 : Nat) "RoarMill$Works" "priceMany" "I") ∈ lw_all := lw_g (lw_at lw_m2 187 rfl) rfl
theorem q513 : (Jvm.Cond.fieldLink "RoarMill$State" (103 : Nat) "RoarMill$Works" "room" "I") ∈ lw_all := lw_g (lw_at lw_m2 191 rfl) rfl
theorem q516 : (Jvm.Cond.fieldLink "RoarMill$State" (166 : Nat) "RoarMill$Works" "loud" "I") ∈ lw_all := lw_g (lw_at lw_m2 194 rfl) rfl
theorem q521 : (Jvm.Cond.fieldLink "RoarMill$State" (130 : Nat) "RoarMill$Works" "sieve" "I") ∈ lw_all := lw_g (lw_at lw_m2 199 rfl) rfl
theorem q525 : (Jvm.Cond.fieldLink "RoarMill$State" (133 : Nat) "RoarMill$Works" "slips" "I") ∈ lw_all := lw_g (lw_at lw_m2 203 rfl) rfl
theorem q529 : (Jvm.Cond.fieldLink "RoarMill$State" (106 : Nat) "RoarMill$Works" "life" "I") ∈ lw_all := lw_g (lw_at lw_m2 207 rfl) rfl
theorem q533 : (Jvm.Cond.fieldLink "RoarMill$State" (160 : Nat) "RoarMill$Works" "bin" "I") ∈ lw_all := lw_g (lw_at lw_m2 211 rfl) rfl
theorem q537 : (Jvm.Cond.fieldLink "RoarMill$State" (163 : Nat) "RoarMill$Works" "draws" "I") ∈ lw_all := lw_g (lw_at lw_m2 215 rfl) rfl
theorem q811 : (Jvm.Cond.fieldLink "RoarMill$State" (119 : Nat) "RoarMill$Size" "breaks" "I") ∈ lw_all := lw_g (lw_at lw_m4 9 rfl) rfl
theorem q814 : (Jvm.Cond.fieldLink "RoarMill$State" (124 : Nat) "RoarMill$Size" "next" "I") ∈ lw_all := lw_g (lw_at lw_m4 12 rfl) rfl
theorem q839 : (Jvm.Cond.fieldLink "RoarMill$State" (112 : Nat) "RoarMill$Ore" "hard" "I") ∈ lw_all := lw_g (lw_at lw_m4 37 rfl) rfl
theorem q841 : (Jvm.Cond.fieldLink "RoarMill$State" (92 : Nat) "RoarMill$Ore" "tons" "[I") ∈ lw_all := lw_g (lw_at lw_m4 39 rfl) rfl
theorem q855 : (Jvm.Cond.instanceMethod ({ cls := "RoarMill$State", name := "clear", desc := "()V" } : Jvm.MethodName)) ∈ lw_all := lw_g (lw_at lw_m4 53 rfl) rfl
theorem q856 : (Jvm.Cond.selects "RoarMill$State" ({ cls := "RoarMill$State", name := "clear", desc := "()V" } : Jvm.MethodName) ({ cls := "RoarMill$State", name := "clear", desc := "()V" } : Jvm.MethodName)) ∈ lw_all := lw_g (lw_at lw_m4 54 rfl) rfl
theorem q857 : (Jvm.Cond.code ({ cls := "RoarMill$State", name := "clear", desc := "()V" } : Jvm.MethodName) prog_11_method_2_code (2 : Nat) (Option.none : Option Jvm.ClassFile.FieldType)) ∈ lw_all := lw_g (lw_at lw_m4 55 rfl) rfl
theorem q894 : (Jvm.Cond.instanceMethod ({ cls := "RoarMill$State", name := "hour", desc := "(LRoarMill$Works;LRoarMill$Settings;LRoarMill$Follows;)V" } : Jvm.MethodName)) ∈ lw_all := lw_g (lw_at lw_m4 92 rfl) rfl
theorem q895 : (Jvm.Cond.selects "RoarMill$State" ({ cls := "RoarMill$State", name := "hour", desc := "(LRoarMill$Works;LRoarMill$Settings;LRoarMill$Follows;)V" } : Jvm.MethodName) ({ cls := "RoarMill$State", name := "hour", desc := "(LRoarMill$Works;LRoarMill$Settings;LRoarMill$Follows;)V" } : Jvm.MethodName)) ∈ lw_all := lw_g (lw_at lw_m4 93 rfl) rfl
theorem q896 : (Jvm.Cond.code ({ cls := "RoarMill$State", name := "hour", desc := "(LRoarMill$Works;LRoarMill$Settings;LRoarMill$Follows;)V" } : Jvm.MethodName) prog_11_method_9_code (6 : Nat) (Option.none : Option Jvm.ClassFile.FieldType)) ∈ lw_all := lw_g (lw_at lw_m4 94 rfl) rfl
theorem q897 : (Jvm.Cond.methodLink "RoarMill$State" (136 : Nat) ({ cls := "RoarMill$State", name := "comes", desc := "(LRoarMill$Works;LRoarMill$Settings;)V" } : Jvm.MethodName)) ∈ lw_all := lw_g (lw_at lw_m4 95 rfl) rfl
theorem q898 : (Jvm.Cond.privateMethod ({ cls := "RoarMill$State", name := "comes", desc := "(LRoarMill$Works;LRoarMill$Settings;)V" } : Jvm.MethodName)) ∈ lw_tbl := lw_at lw_m4 96 rfl
theorem q899 : (Jvm.Cond.instanceMethod ({ cls := "RoarMill$State", name := "comes", desc := "(LRoarMill$Works;LRoarMill$Settings;)V" } : Jvm.MethodName)) ∈ lw_all := lw_g (lw_at lw_m4 97 rfl) rfl
theorem q900 : (Jvm.Cond.code ({ cls := "RoarMill$State", name := "comes", desc := "(LRoarMill$Works;LRoarMill$Settings;)V" } : Jvm.MethodName) prog_11_method_4_code (6 : Nat) (Option.none : Option Jvm.ClassFile.FieldType)) ∈ lw_all := lw_g (lw_at lw_m4 98 rfl) rfl
theorem q901 : (Jvm.Cond.methodLink "RoarMill$State" (140 : Nat) ({ cls := "RoarMill$State", name := "effectOf", desc := "(LRoarMill$Works;LRoarMill$Settings;)I" } : Jvm.MethodName)) ∈ lw_all := lw_g (lw_at lw_m4 99 rfl) rfl
theorem q902 : (Jvm.Cond.privateMethod ({ cls := "RoarMill$State", name := "effectOf", desc := "(LRoarMill$Works;LRoarMill$Settings;)I" } : Jvm.MethodName)) ∈ lw_tbl := lw_at lw_m4 100 rfl
theorem q903 : (Jvm.Cond.instanceMethod ({ cls := "RoarMill$State", name := "effectOf", desc := "(LRoarMill$Works;LRoarMill$Settings;)I" } : Jvm.MethodName)) ∈ lw_all := lw_g (lw_at lw_m4 101 rfl) rfl
theorem q904 : (Jvm.Cond.code ({ cls := "RoarMill$State", name := "effectOf", desc := "(LRoarMill$Works;LRoarMill$Settings;)I" } : Jvm.MethodName) prog_11_method_6_code (5 : Nat) (Option.some Jvm.ClassFile.FieldType.int)) ∈ lw_all := lw_g (lw_at lw_m4 102 rfl) rfl
theorem q905 : (Jvm.Cond.methodLink "RoarMill$State" (109 : Nat) ({ cls := "java/lang/Math", name := "max", desc := "(II)I" } : Jvm.MethodName)) ∈ lw_all := lw_g (lw_at lw_m4 103 rfl) rfl
theorem q908 : (Jvm.Cond.interfaceEntry "RoarMill$State" (144 : Nat)) ∈ lw_tbl := lw_at lw_m4 106 rfl
theorem q909 : (Jvm.Cond.methodLink "RoarMill$State" (144 : Nat) ({ cls := "RoarMill$Follows", name := "goes", desc := "(LRoarMill$Works;ZIII)V" } : Jvm.MethodName)) ∈ lw_all := lw_g (lw_at lw_m4 107 rfl) rfl
theorem q923 : (Jvm.Cond.methodLink "RoarMill$State" (150 : Nat) ({ cls := "RoarMill$State", name := "digs", desc := "(LRoarMill$Works;)V" } : Jvm.MethodName)) ∈ lw_all := lw_g (lw_at lw_m4 121 rfl) rfl
theorem q924 : (Jvm.Cond.privateMethod ({ cls := "RoarMill$State", name := "digs", desc := "(LRoarMill$Works;)V" } : Jvm.MethodName)) ∈ lw_tbl := lw_at lw_m4 122 rfl
theorem q925 : (Jvm.Cond.instanceMethod ({ cls := "RoarMill$State", name := "digs", desc := "(LRoarMill$Works;)V" } : Jvm.MethodName)) ∈ lw_all := lw_g (lw_at lw_m4 123 rfl) rfl
theorem q926 : (Jvm.Cond.code ({ cls := "RoarMill$State", name := "digs", desc := "(LRoarMill$Works;)V" } : Jvm.MethodName) prog_11_method_5_code (4 : Nat) (Option.none : Option Jvm.ClassFile.FieldType)) ∈ lw_all := lw_g (lw_at lw_m4 124 rfl) rfl
theorem q927 : (Jvm.Cond.methodLink "RoarMill$State" (97 : Nat) ({ cls := "java/lang/Math", name := "min", desc := "(II)I" } : Jvm.MethodName)) ∈ lw_all := lw_g (lw_at lw_m4 125 rfl) rfl
theorem q928 : (Jvm.Cond.methodLink "RoarMill$State" (154 : Nat) ({ cls := "RoarMill$State", name := "grinds", desc := "(LRoarMill$Works;)V" } : Jvm.MethodName)) ∈ lw_all := lw_g (lw_at lw_m4 126 rfl) rfl
theorem q929 : (Jvm.Cond.privateMethod ({ cls := "RoarMill$State", name := "grinds", desc := "(LRoarMill$Works;)V" } : Jvm.MethodName)) ∈ lw_tbl := lw_at lw_m4 127 rfl
theorem q930 : (Jvm.Cond.instanceMethod ({ cls := "RoarMill$State", name := "grinds", desc := "(LRoarMill$Works;)V" } : Jvm.MethodName)) ∈ lw_all := lw_g (lw_at lw_m4 128 rfl) rfl
theorem q931 : (Jvm.Cond.code ({ cls := "RoarMill$State", name := "grinds", desc := "(LRoarMill$Works;)V" } : Jvm.MethodName) prog_11_method_7_code (6 : Nat) (Option.none : Option Jvm.ClassFile.FieldType)) ∈ lw_all := lw_g (lw_at lw_m4 129 rfl) rfl
theorem q932 : (Jvm.Cond.methodLink "RoarMill$State" (157 : Nat) ({ cls := "RoarMill$State", name := "sifts", desc := "(LRoarMill$Works;LRoarMill$Settings;)V" } : Jvm.MethodName)) ∈ lw_all := lw_g (lw_at lw_m4 130 rfl) rfl
theorem q933 : (Jvm.Cond.privateMethod ({ cls := "RoarMill$State", name := "sifts", desc := "(LRoarMill$Works;LRoarMill$Settings;)V" } : Jvm.MethodName)) ∈ lw_tbl := lw_at lw_m4 131 rfl
theorem q934 : (Jvm.Cond.instanceMethod ({ cls := "RoarMill$State", name := "sifts", desc := "(LRoarMill$Works;LRoarMill$Settings;)V" } : Jvm.MethodName)) ∈ lw_all := lw_g (lw_at lw_m4 132 rfl) rfl
theorem q935 : (Jvm.Cond.code ({ cls := "RoarMill$State", name := "sifts", desc := "(LRoarMill$Works;LRoarMill$Settings;)V" } : Jvm.MethodName) prog_11_method_8_code (5 : Nat) (Option.none : Option Jvm.ClassFile.FieldType)) ∈ lw_all := lw_g (lw_at lw_m4 133 rfl) rfl
theorem q970 : (Jvm.Cond.instanceMethod ({ cls := "RoarMill$State", name := "start", desc := "(LRoarMill$Works;III)V" } : Jvm.MethodName)) ∈ lw_all := lw_g (lw_at lw_m4 168 rfl) rfl
theorem q971 : (Jvm.Cond.selects "RoarMill$State" ({ cls := "RoarMill$State", name := "start", desc := "(LRoarMill$Works;III)V" } : Jvm.MethodName) ({ cls := "RoarMill$State", name := "start", desc := "(LRoarMill$Works;III)V" } : Jvm.MethodName)) ∈ lw_all := lw_g (lw_at lw_m4 169 rfl) rfl
theorem q972 : (Jvm.Cond.code ({ cls := "RoarMill$State", name := "start", desc := "(LRoarMill$Works;III)V" } : Jvm.MethodName) prog_11_method_10_code (6 : Nat) (Option.none : Option Jvm.ClassFile.FieldType)) ∈ lw_all := lw_g (lw_at lw_m4 170 rfl) rfl
theorem q973 : (Jvm.Cond.methodLink "RoarMill$State" (175 : Nat) ({ cls := "RoarMill$State", name := "clear", desc := "()V" } : Jvm.MethodName)) ∈ lw_all := lw_g (lw_at lw_m4 171 rfl) rfl
theorem q1025 : (Jvm.Cond.instanceMethod ({ cls := "RoarMill$State", name := "become", desc := "(LRoarMill$State;)V" } : Jvm.MethodName)) ∈ lw_all := lw_g (lw_at lw_m4 223 rfl) rfl
theorem q1026 : (Jvm.Cond.selects "RoarMill$State" ({ cls := "RoarMill$State", name := "become", desc := "(LRoarMill$State;)V" } : Jvm.MethodName) ({ cls := "RoarMill$State", name := "become", desc := "(LRoarMill$State;)V" } : Jvm.MethodName)) ∈ lw_all := lw_g (lw_at lw_m4 224 rfl) rfl
theorem q1027 : (Jvm.Cond.code ({ cls := "RoarMill$State", name := "become", desc := "(LRoarMill$State;)V" } : Jvm.MethodName) prog_11_method_3_code (2 : Nat) (Option.none : Option Jvm.ClassFile.FieldType)) ∈ lw_all := lw_g (lw_at lw_m4 225 rfl) rfl
theorem q1028 : (Jvm.Cond.methodLink "RoarMill$State" (69 : Nat) ({ cls := "java/lang/System", name := "arraycopy", desc := "(Ljava/lang/Object;ILjava/lang/Object;II)V" } : Jvm.MethodName)) ∈ lw_all := lw_g (lw_at lw_m4 226 rfl) rfl
theorem q1698 : (Jvm.Cond.castable "RoarMill$State" "java/lang/Object") ∈ lw_tbl := lw_at lw_m7 176 rfl
theorem in_X4 : ∀ w ∈ wsX40, w ∈ lw_all := lw_in wsX40 [269, 271, 273, 275, 277, 279, 281, 283, 285, 287, 289, 291, 293, 295, 297, 299, 301, 303] (by decide +kernel) (by decide +kernel)

/-! RoarMill$Settings -/
set_option maxRecDepth 100000
def RX5 : String := "RoarMill$Settings"
def TX5 : u_T := fun k => match k with
  | 0 => ("RoarMill$Settings", "rate", "I", false)
  | 1 => ("RoarMill$Settings", "water", "I", false)
  | _ => ("RoarMill$Settings", "ore", "I", false)
def tyX5 : Nat → FieldType := fun k => match k with
  | 0 => .int
  | 1 => .int
  | _ => .int
abbrev wsX50 : List Cond := u_ws RX5 TX5 3
theorem nmX5 : ∀ a, a < 3 → ∀ b, b < 3 → a ≠ b → (TX5 a).2.1 ≠ (TX5 b).2.1 := by decide +kernel
theorem tyX5_ok : ∀ k, k < 3 → parseFieldDescriptor (TX5 k).2.2.1 = some (tyX5 k) := by decide +kernel
abbrev cX5_init : ByteArray := prog_9_method_1_code
def yX5_init : MethodName := ⟨RX5, "<init>", "()V"⟩
def dkwX5_init_0 : List UInt8 := [42, 183, 0, 1, 42, 4, 181, 0, 7, 42, 4, 181, 0, 13, 177]
abbrev dktX5_init_0 : List UInt8 := dkwX5_init_0 ++ []
theorem dksX5_init_0 : cX5_init.data.toList.drop 0 = dktX5_init_0 := by decide +kernel
theorem dX5_init_0 : decode cX5_init 0 = .ok (.aload_n 0, 1) := dk_42 (dk_at dksX5_init_0 0 rfl rfl)
theorem dX5_init_1 : decode cX5_init 1 = .ok (.invokespecial 1, 3) := dk_183 0 1 (dk_at dksX5_init_0 1 rfl rfl)
theorem dX5_init_4 : decode cX5_init 4 = .ok (.aload_n 0, 1) := dk_42 (dk_at dksX5_init_0 4 rfl rfl)
theorem dX5_init_5 : decode cX5_init 5 = .ok (.iconst 1, 1) := dk_4 (dk_at dksX5_init_0 5 rfl rfl)
theorem dX5_init_6 : decode cX5_init 6 = .ok (.putfield 7, 3) := dk_181 0 7 (dk_at dksX5_init_0 6 rfl rfl)
theorem dX5_init_9 : decode cX5_init 9 = .ok (.aload_n 0, 1) := dk_42 (dk_at dksX5_init_0 9 rfl rfl)
theorem dX5_init_10 : decode cX5_init 10 = .ok (.iconst 1, 1) := dk_4 (dk_at dksX5_init_0 10 rfl rfl)
theorem dX5_init_11 : decode cX5_init 11 = .ok (.putfield 13, 3) := dk_181 0 13 (dk_at dksX5_init_0 11 rfl rfl)
theorem dX5_init_14 : decode cX5_init 14 = .ok (.return_, 1) := dk_177 (dk_at dksX5_init_0 14 rfl rfl)
abbrev cX5_first : ByteArray := prog_9_method_3_code
def yX5_first : MethodName := ⟨RX5, "first", "()V"⟩
def dkwX5_first_0 : List UInt8 := [42, 4, 181, 0, 7, 42, 4, 181, 0, 13, 42, 3, 181, 0, 16, 177]
abbrev dktX5_first_0 : List UInt8 := dkwX5_first_0 ++ []
theorem dksX5_first_0 : cX5_first.data.toList.drop 0 = dktX5_first_0 := by decide +kernel
theorem dX5_first_0 : decode cX5_first 0 = .ok (.aload_n 0, 1) := dk_42 (dk_at dksX5_first_0 0 rfl rfl)
theorem dX5_first_1 : decode cX5_first 1 = .ok (.iconst 1, 1) := dk_4 (dk_at dksX5_first_0 1 rfl rfl)
theorem dX5_first_2 : decode cX5_first 2 = .ok (.putfield 7, 3) := dk_181 0 7 (dk_at dksX5_first_0 2 rfl rfl)
theorem dX5_first_5 : decode cX5_first 5 = .ok (.aload_n 0, 1) := dk_42 (dk_at dksX5_first_0 5 rfl rfl)
theorem dX5_first_6 : decode cX5_first 6 = .ok (.iconst 1, 1) := dk_4 (dk_at dksX5_first_0 6 rfl rfl)
theorem dX5_first_7 : decode cX5_first 7 = .ok (.putfield 13, 3) := dk_181 0 13 (dk_at dksX5_first_0 7 rfl rfl)
theorem dX5_first_10 : decode cX5_first 10 = .ok (.aload_n 0, 1) := dk_42 (dk_at dksX5_first_0 10 rfl rfl)
theorem dX5_first_11 : decode cX5_first 11 = .ok (.iconst 0, 1) := dk_3 (dk_at dksX5_first_0 11 rfl rfl)
theorem dX5_first_12 : decode cX5_first 12 = .ok (.putfield 16, 3) := dk_181 0 16 (dk_at dksX5_first_0 12 rfl rfl)
theorem dX5_first_15 : decode cX5_first 15 = .ok (.return_, 1) := dk_177 (dk_at dksX5_first_0 15 rfl rfl)
abbrev cX5_become : ByteArray := prog_9_method_2_code
def yX5_become : MethodName := ⟨RX5, "become", "(LRoarMill$Settings;)V"⟩
def dkwX5_become_1 : List UInt8 := [177]
abbrev dktX5_become_1 : List UInt8 := dkwX5_become_1 ++ []
def dkwX5_become_0 : List UInt8 := [42, 43, 180, 0, 7, 181, 0, 7, 42, 43, 180, 0, 13, 181, 0, 13, 42, 43, 180, 0, 16, 181, 0, 16]
abbrev dktX5_become_0 : List UInt8 := dkwX5_become_0 ++ dktX5_become_1
theorem dksX5_become_0 : cX5_become.data.toList.drop 0 = dktX5_become_0 := by decide +kernel
theorem dksX5_become_1 : cX5_become.data.toList.drop 24 = dktX5_become_1 := dk_seg dksX5_become_0 24 rfl rfl
theorem dX5_become_0 : decode cX5_become 0 = .ok (.aload_n 0, 1) := dk_42 (dk_at dksX5_become_0 0 rfl rfl)
theorem dX5_become_1 : decode cX5_become 1 = .ok (.aload_n 1, 1) := dk_43 (dk_at dksX5_become_0 1 rfl rfl)
theorem dX5_become_2 : decode cX5_become 2 = .ok (.getfield 7, 3) := dk_180 0 7 (dk_at dksX5_become_0 2 rfl rfl)
theorem dX5_become_5 : decode cX5_become 5 = .ok (.putfield 7, 3) := dk_181 0 7 (dk_at dksX5_become_0 5 rfl rfl)
theorem dX5_become_8 : decode cX5_become 8 = .ok (.aload_n 0, 1) := dk_42 (dk_at dksX5_become_0 8 rfl rfl)
theorem dX5_become_9 : decode cX5_become 9 = .ok (.aload_n 1, 1) := dk_43 (dk_at dksX5_become_0 9 rfl rfl)
theorem dX5_become_10 : decode cX5_become 10 = .ok (.getfield 13, 3) := dk_180 0 13 (dk_at dksX5_become_0 10 rfl rfl)
theorem dX5_become_13 : decode cX5_become 13 = .ok (.putfield 13, 3) := dk_181 0 13 (dk_at dksX5_become_0 13 rfl rfl)
theorem dX5_become_16 : decode cX5_become 16 = .ok (.aload_n 0, 1) := dk_42 (dk_at dksX5_become_0 16 rfl rfl)
theorem dX5_become_17 : decode cX5_become 17 = .ok (.aload_n 1, 1) := dk_43 (dk_at dksX5_become_0 17 rfl rfl)
theorem dX5_become_18 : decode cX5_become 18 = .ok (.getfield 16, 3) := dk_180 0 16 (dk_at dksX5_become_0 18 rfl rfl)
theorem dX5_become_21 : decode cX5_become 21 = .ok (.putfield 16, 3) := dk_181 0 16 (dk_at dksX5_become_0 21 rfl rfl)
theorem dX5_become_24 : decode cX5_become 24 = .ok (.return_, 1) := dk_177 (dk_at dksX5_become_1 0 rfl rfl)
theorem q90 : (Jvm.Cond.initialized "RoarMill$Settings") ∈ lw_all := lw_g (lw_at lw_m1 8 rfl) rfl
theorem q308 : (Jvm.Cond.instantiable "RoarMill$Settings" (3 : Nat)) ∈ lw_all := lw_g (lw_at lw_m1 226 rfl) rfl
theorem q310 : (Jvm.Cond.instanceMethod ({ cls := "RoarMill$Settings", name := "<init>", desc := "()V" } : Jvm.MethodName)) ∈ lw_all := lw_g (lw_at lw_m1 228 rfl) rfl
theorem q311 : (Jvm.Cond.code ({ cls := "RoarMill$Settings", name := "<init>", desc := "()V" } : Jvm.MethodName) prog_9_method_1_code (1 : Nat) (Option.none : Option Jvm.ClassFile.FieldType)) ∈ lw_all := lw_g (lw_at lw_m1 229 rfl) rfl
theorem q312 : (Jvm.Cond.methodLink "RoarMill$Settings" (1 : Nat) ({ cls := "java/lang/Object", name := "<init>", desc := "()V" } : Jvm.MethodName)) ∈ lw_all := lw_g (lw_at lw_m1 230 rfl) rfl
theorem q313 : (Jvm.Cond.fieldLink "RoarMill$Settings" (7 : Nat) "RoarMill$Settings" "rate" "I") ∈ lw_all := lw_g (lw_at lw_m1 231 rfl) rfl
theorem q316 : (Jvm.Cond.fieldLink "RoarMill$Settings" (13 : Nat) "RoarMill$Settings" "water" "I") ∈ lw_all := lw_g (lw_at lw_m1 234 rfl) rfl
theorem q319 : (Jvm.Cond.fieldLink "RoarMill$Settings" (16 : Nat) "RoarMill$Settings" "ore" "I") ∈ lw_all := lw_g (lw_at lw_m1 237 rfl) rfl
theorem q322 : (Jvm.Cond.lays "RoarMill$Settings" "RoarMill$Settings" "rate" "I") ∈ lw_all := lw_g (lw_at lw_m2 0 rfl) rfl
theorem q323 : (Jvm.Cond.soleField "RoarMill$Settings" "rate") ∈ lw_all := lw_g (lw_at lw_m2 1 rfl) rfl
theorem q324 : (Jvm.Cond.lays "RoarMill$Settings" "RoarMill$Settings" "water" "I") ∈ lw_all := lw_g (lw_at lw_m2 2 rfl) rfl
theorem q325 : (Jvm.Cond.soleField "RoarMill$Settings" "water") ∈ lw_all := lw_g (lw_at lw_m2 3 rfl) rfl
theorem q326 : (Jvm.Cond.lays "RoarMill$Settings" "RoarMill$Settings" "ore" "I") ∈ lw_all := lw_g (lw_at lw_m2 4 rfl) rfl
theorem q327 : (Jvm.Cond.soleField "RoarMill$Settings" "ore") ∈ lw_all := lw_g (lw_at lw_m2 5 rfl) rfl
theorem q328 : (Jvm.Cond.superclass "RoarMill$Settings" "java/lang/Object") ∈ lw_all := lw_g (lw_at lw_m2 6 rfl) rfl
theorem q859 : (Jvm.Cond.instanceMethod ({ cls := "RoarMill$Settings", name := "first", desc := "()V" } : Jvm.MethodName)) ∈ lw_all := lw_g (lw_at lw_m4 57 rfl) rfl
theorem q860 : (Jvm.Cond.selects "RoarMill$Settings" ({ cls := "RoarMill$Settings", name := "first", desc := "()V" } : Jvm.MethodName) ({ cls := "RoarMill$Settings", name := "first", desc := "()V" } : Jvm.MethodName)) ∈ lw_all := lw_g (lw_at lw_m4 58 rfl) rfl
theorem q861 : (Jvm.Cond.code ({ cls := "RoarMill$Settings", name := "first", desc := "()V" } : Jvm.MethodName) prog_9_method_3_code (1 : Nat) (Option.none : Option Jvm.ClassFile.FieldType)) ∈ lw_all := lw_g (lw_at lw_m4 59 rfl) rfl
theorem q1030 : (Jvm.Cond.instanceMethod ({ cls := "RoarMill$Settings", name := "become", desc := "(LRoarMill$Settings;)V" } : Jvm.MethodName)) ∈ lw_all := lw_g (lw_at lw_m4 228 rfl) rfl
theorem q1031 : (Jvm.Cond.selects "RoarMill$Settings" ({ cls := "RoarMill$Settings", name := "become", desc := "(LRoarMill$Settings;)V" } : Jvm.MethodName) ({ cls := "RoarMill$Settings", name := "become", desc := "(LRoarMill$Settings;)V" } : Jvm.MethodName)) ∈ lw_all := lw_g (lw_at lw_m4 229 rfl) rfl
theorem q1032 : (Jvm.Cond.code ({ cls := "RoarMill$Settings", name := "become", desc := "(LRoarMill$Settings;)V" } : Jvm.MethodName) prog_9_method_2_code (2 : Nat) (Option.none : Option Jvm.ClassFile.FieldType)) ∈ lw_all := lw_g (lw_at lw_m4 230 rfl) rfl
theorem q1699 : (Jvm.Cond.castable "RoarMill$Settings" "java/lang/Object") ∈ lw_tbl := lw_at lw_m7 177 rfl
theorem in_X5 : ∀ w ∈ wsX50, w ∈ lw_all := lw_in wsX50 [322, 324, 326] (by decide +kernel) (by decide +kernel)

/-! RoarMill$Row -/
set_option maxRecDepth 100000
def RX6 : String := "RoarMill$Row"
def TX6 : u_T := fun k => match k with
  | 0 => ("RoarMill$Row", "numbers", "[I", true)
  | _ => ("RoarMill$Row", "many", "I", false)
def tyX6 : Nat → FieldType := fun k => match k with
  | 0 => .array .int
  | _ => .int
abbrev wsX60 : List Cond := u_ws RX6 TX6 2
theorem nmX6 : ∀ a, a < 2 → ∀ b, b < 2 → a ≠ b → (TX6 a).2.1 ≠ (TX6 b).2.1 := by decide +kernel
theorem tyX6_ok : ∀ k, k < 2 → parseFieldDescriptor (TX6 k).2.2.1 = some (tyX6 k) := by decide +kernel
abbrev cX6_init : ByteArray := prog_8_method_1_code
def yX6_init : MethodName := ⟨RX6, "<init>", "()V"⟩
def dkwX6_init_0 : List UInt8 := [42, 183, 0, 3, 42, 16, 8, 188, 10, 181, 0, 9, 177]
abbrev dktX6_init_0 : List UInt8 := dkwX6_init_0 ++ []
theorem dksX6_init_0 : cX6_init.data.toList.drop 0 = dktX6_init_0 := by decide +kernel
theorem dX6_init_0 : decode cX6_init 0 = .ok (.aload_n 0, 1) := dk_42 (dk_at dksX6_init_0 0 rfl rfl)
theorem dX6_init_1 : decode cX6_init 1 = .ok (.invokespecial 3, 3) := dk_183 0 3 (dk_at dksX6_init_0 1 rfl rfl)
theorem dX6_init_4 : decode cX6_init 4 = .ok (.aload_n 0, 1) := dk_42 (dk_at dksX6_init_0 4 rfl rfl)
theorem dX6_init_5 : decode cX6_init 5 = .ok (.bipush 8, 2) := dk_16 8 (dk_at dksX6_init_0 5 rfl rfl)
theorem dX6_init_7 : decode cX6_init 7 = .ok (.newarray .int, 2) := dk_188_10 (dk_at dksX6_init_0 7 rfl rfl)
theorem dX6_init_9 : decode cX6_init 9 = .ok (.putfield 9, 3) := dk_181 0 9 (dk_at dksX6_init_0 9 rfl rfl)
theorem dX6_init_12 : decode cX6_init 12 = .ok (.return_, 1) := dk_177 (dk_at dksX6_init_0 12 rfl rfl)
abbrev cX6_sum : ByteArray := prog_8_method_2_code
def yX6_sum : MethodName := ⟨RX6, "sum", "()I"⟩
def dkwX6_sum_1 : List UInt8 := [167, 255, 236, 27, 172]
abbrev dktX6_sum_1 : List UInt8 := dkwX6_sum_1 ++ []
def dkwX6_sum_0 : List UInt8 := [3, 60, 3, 61, 28, 42, 180, 0, 15, 162, 0, 18, 27, 42, 180, 0, 9, 28, 46, 96, 60, 132, 2, 1]
abbrev dktX6_sum_0 : List UInt8 := dkwX6_sum_0 ++ dktX6_sum_1
theorem dksX6_sum_0 : cX6_sum.data.toList.drop 0 = dktX6_sum_0 := by decide +kernel
theorem dksX6_sum_1 : cX6_sum.data.toList.drop 24 = dktX6_sum_1 := dk_seg dksX6_sum_0 24 rfl rfl
theorem dX6_sum_0 : decode cX6_sum 0 = .ok (.iconst 0, 1) := dk_3 (dk_at dksX6_sum_0 0 rfl rfl)
theorem dX6_sum_1 : decode cX6_sum 1 = .ok (.istore_n 1, 1) := dk_60 (dk_at dksX6_sum_0 1 rfl rfl)
theorem dX6_sum_2 : decode cX6_sum 2 = .ok (.iconst 0, 1) := dk_3 (dk_at dksX6_sum_0 2 rfl rfl)
theorem dX6_sum_3 : decode cX6_sum 3 = .ok (.istore_n 2, 1) := dk_61 (dk_at dksX6_sum_0 3 rfl rfl)
theorem dX6_sum_4 : decode cX6_sum 4 = .ok (.iload_n 2, 1) := dk_28 (dk_at dksX6_sum_0 4 rfl rfl)
theorem dX6_sum_5 : decode cX6_sum 5 = .ok (.aload_n 0, 1) := dk_42 (dk_at dksX6_sum_0 5 rfl rfl)
theorem dX6_sum_6 : decode cX6_sum 6 = .ok (.getfield 15, 3) := dk_180 0 15 (dk_at dksX6_sum_0 6 rfl rfl)
theorem dX6_sum_9 : decode cX6_sum 9 = .ok (.if_icmp .ge 18, 3) := dk_162 0 18 (dk_at dksX6_sum_0 9 rfl rfl)
theorem dX6_sum_12 : decode cX6_sum 12 = .ok (.iload_n 1, 1) := dk_27 (dk_at dksX6_sum_0 12 rfl rfl)
theorem dX6_sum_13 : decode cX6_sum 13 = .ok (.aload_n 0, 1) := dk_42 (dk_at dksX6_sum_0 13 rfl rfl)
theorem dX6_sum_14 : decode cX6_sum 14 = .ok (.getfield 9, 3) := dk_180 0 9 (dk_at dksX6_sum_0 14 rfl rfl)
theorem dX6_sum_17 : decode cX6_sum 17 = .ok (.iload_n 2, 1) := dk_28 (dk_at dksX6_sum_0 17 rfl rfl)
theorem dX6_sum_18 : decode cX6_sum 18 = .ok (.iaload, 1) := dk_46 (dk_at dksX6_sum_0 18 rfl rfl)
theorem dX6_sum_19 : decode cX6_sum 19 = .ok (.iadd, 1) := dk_96 (dk_at dksX6_sum_0 19 rfl rfl)
theorem dX6_sum_20 : decode cX6_sum 20 = .ok (.istore_n 1, 1) := dk_60 (dk_at dksX6_sum_0 20 rfl rfl)
theorem dX6_sum_21 : decode cX6_sum 21 = .ok (.iinc 2 1, 3) := dk_132 2 1 (dk_at dksX6_sum_0 21 rfl rfl)
theorem dX6_sum_24 : decode cX6_sum 24 = .ok (.goto (-20), 3) := dk_167 255 236 (dk_at dksX6_sum_1 0 rfl rfl)
theorem dX6_sum_27 : decode cX6_sum 27 = .ok (.iload_n 1, 1) := dk_27 (dk_at dksX6_sum_1 3 rfl rfl)
theorem dX6_sum_28 : decode cX6_sum 28 = .ok (.ireturn, 1) := dk_172 (dk_at dksX6_sum_1 4 rfl rfl)
abbrev cX6_at : ByteArray := prog_8_method_3_code
def yX6_at : MethodName := ⟨RX6, "at", "(I)I"⟩
def dkwX6_at_0 : List UInt8 := [42, 180, 0, 9, 27, 46, 172]
abbrev dktX6_at_0 : List UInt8 := dkwX6_at_0 ++ []
theorem dksX6_at_0 : cX6_at.data.toList.drop 0 = dktX6_at_0 := by decide +kernel
theorem dX6_at_0 : decode cX6_at 0 = .ok (.aload_n 0, 1) := dk_42 (dk_at dksX6_at_0 0 rfl rfl)
theorem dX6_at_1 : decode cX6_at 1 = .ok (.getfield 9, 3) := dk_180 0 9 (dk_at dksX6_at_0 1 rfl rfl)
theorem dX6_at_4 : decode cX6_at 4 = .ok (.iload_n 1, 1) := dk_27 (dk_at dksX6_at_0 4 rfl rfl)
theorem dX6_at_5 : decode cX6_at 5 = .ok (.iaload, 1) := dk_46 (dk_at dksX6_at_0 5 rfl rfl)
theorem dX6_at_6 : decode cX6_at 6 = .ok (.ireturn, 1) := dk_172 (dk_at dksX6_at_0 6 rfl rfl)
theorem q91 : (Jvm.Cond.initialized "RoarMill$Row") ∈ lw_all := lw_g (lw_at lw_m1 9 rfl) rfl
theorem q332 : (Jvm.Cond.instantiable "RoarMill$Row" (2 : Nat)) ∈ lw_all := lw_g (lw_at lw_m2 10 rfl) rfl
theorem q334 : (Jvm.Cond.instanceMethod ({ cls := "RoarMill$Row", name := "<init>", desc := "()V" } : Jvm.MethodName)) ∈ lw_all := lw_g (lw_at lw_m2 12 rfl) rfl
theorem q335 : (Jvm.Cond.code ({ cls := "RoarMill$Row", name := "<init>", desc := "()V" } : Jvm.MethodName) prog_8_method_1_code (1 : Nat) (Option.none : Option Jvm.ClassFile.FieldType)) ∈ lw_all := lw_g (lw_at lw_m2 13 rfl) rfl
theorem q336 : (Jvm.Cond.methodLink "RoarMill$Row" (3 : Nat) ({ cls := "java/lang/Object", name := "<init>", desc := "()V" } : Jvm.MethodName)) ∈ lw_all := lw_g (lw_at lw_m2 14 rfl) rfl
theorem q337 : (Jvm.Cond.fieldLink "RoarMill$Row" (9 : Nat) "RoarMill$Row" "numbers" "[I") ∈ lw_all := lw_g (lw_at lw_m2 15 rfl) rfl
theorem q339 : (Jvm.Cond.fieldLink "RoarMill$Row" (15 : Nat) "RoarMill$Row" "many" "I") ∈ lw_all := lw_g (lw_at lw_m2 17 rfl) rfl
theorem q341 : (Jvm.Cond.laysFinal "RoarMill$Row" "RoarMill$Row" "numbers" "[I") ∈ lw_all := lw_g (lw_at lw_m2 19 rfl) rfl
theorem q342 : (Jvm.Cond.soleField "RoarMill$Row" "numbers") ∈ lw_all := lw_g (lw_at lw_m2 20 rfl) rfl
theorem q343 : (Jvm.Cond.lays "RoarMill$Row" "RoarMill$Row" "many" "I") ∈ lw_all := lw_g (lw_at lw_m2 21 rfl) rfl
theorem q344 : (Jvm.Cond.soleField "RoarMill$Row" "many") ∈ lw_all := lw_g (lw_at lw_m2 22 rfl) rfl
theorem q345 : (Jvm.Cond.superclass "RoarMill$Row" "java/lang/Object") ∈ lw_all := lw_g (lw_at lw_m2 23 rfl) rfl
theorem q1066 : (Jvm.Cond.instanceMethod ({ cls := "RoarMill$Row", name := "sum", desc := "()I" } : Jvm.MethodName)) ∈ lw_all := lw_g (lw_at lw_m5 24 rfl) rfl
theorem q1067 : (Jvm.Cond.selects "RoarMill$Row" ({ cls := "RoarMill$Row", name := "sum", desc := "()I" } : Jvm.MethodName) ({ cls := "RoarMill$Row", name := "sum", desc := "()I" } : Jvm.MethodName)) ∈ lw_all := lw_g (lw_at lw_m5 25 rfl) rfl
theorem q1068 : (Jvm.Cond.code ({ cls := "RoarMill$Row", name := "sum", desc := "()I" } : Jvm.MethodName) prog_8_method_2_code (3 : Nat) (Option.some Jvm.ClassFile.FieldType.int)) ∈ lw_all := lw_g (lw_at lw_m5 26 rfl) rfl
theorem q1078 : (Jvm.Cond.instanceMethod ({ cls := "RoarMill$Row", name := "at", desc := "(I)I" } : Jvm.MethodName)) ∈ lw_all := lw_g (lw_at lw_m5 36 rfl) rfl
theorem q1079 : (Jvm.Cond.selects "RoarMill$Row" ({ cls := "RoarMill$Row", name := "at", desc := "(I)I" } : Jvm.MethodName) ({ cls := "RoarMill$Row", name := "at", desc := "(I)I" } : Jvm.MethodName)) ∈ lw_all := lw_g (lw_at lw_m5 37 rfl) rfl
theorem q1080 : (Jvm.Cond.code ({ cls := "RoarMill$Row", name := "at", desc := "(I)I" } : Jvm.MethodName) prog_8_method_3_code (2 : Nat) (Option.some Jvm.ClassFile.FieldType.int)) ∈ lw_all := lw_g (lw_at lw_m5 38 rfl) rfl
theorem q1700 : (Jvm.Cond.castable "RoarMill$Row" "java/lang/Object") ∈ lw_tbl := lw_at lw_m7 178 rfl
theorem in_X6 : ∀ w ∈ wsX60, w ∈ lw_all := lw_in wsX60 [341, 343] (by decide +kernel) (by decide +kernel)

/-! RoarMill$Led -/
set_option maxRecDepth 100000
def RX7 : String := "RoarMill$Led"
def TX7 : u_T := fun k => match k with
  | 0 => ("RoarMill$Led", "held", "[J", true)
  | 1 => ("RoarMill$Led", "back", "[J", true)
  | _ => ("RoarMill$Led", "passed", "J", false)
def tyX7 : Nat → FieldType := fun k => match k with
  | 0 => .array .long
  | 1 => .array .long
  | _ => .long
abbrev wsX70 : List Cond := u_ws RX7 TX7 3
theorem nmX7 : ∀ a, a < 3 → ∀ b, b < 3 → a ≠ b → (TX7 a).2.1 ≠ (TX7 b).2.1 := by decide +kernel
theorem tyX7_ok : ∀ k, k < 3 → parseFieldDescriptor (TX7 k).2.2.1 = some (tyX7 k) := by decide +kernel
abbrev cX7_init : ByteArray := prog_3_method_1_code
def yX7_init : MethodName := ⟨RX7, "<init>", "()V"⟩
def dkwX7_init_0 : List UInt8 := [42, 183, 0, 3, 42, 8, 188, 11, 181, 0, 9, 42, 8, 188, 11, 181, 0, 15, 177]
abbrev dktX7_init_0 : List UInt8 := dkwX7_init_0 ++ []
theorem dksX7_init_0 : cX7_init.data.toList.drop 0 = dktX7_init_0 := by decide +kernel
theorem dX7_init_0 : decode cX7_init 0 = .ok (.aload_n 0, 1) := dk_42 (dk_at dksX7_init_0 0 rfl rfl)
theorem dX7_init_1 : decode cX7_init 1 = .ok (.invokespecial 3, 3) := dk_183 0 3 (dk_at dksX7_init_0 1 rfl rfl)
theorem dX7_init_4 : decode cX7_init 4 = .ok (.aload_n 0, 1) := dk_42 (dk_at dksX7_init_0 4 rfl rfl)
theorem dX7_init_5 : decode cX7_init 5 = .ok (.iconst 5, 1) := dk_8 (dk_at dksX7_init_0 5 rfl rfl)
theorem dX7_init_6 : decode cX7_init 6 = .ok (.newarray .long, 2) := dk_188_11 (dk_at dksX7_init_0 6 rfl rfl)
theorem dX7_init_8 : decode cX7_init 8 = .ok (.putfield 9, 3) := dk_181 0 9 (dk_at dksX7_init_0 8 rfl rfl)
theorem dX7_init_11 : decode cX7_init 11 = .ok (.aload_n 0, 1) := dk_42 (dk_at dksX7_init_0 11 rfl rfl)
theorem dX7_init_12 : decode cX7_init 12 = .ok (.iconst 5, 1) := dk_8 (dk_at dksX7_init_0 12 rfl rfl)
theorem dX7_init_13 : decode cX7_init 13 = .ok (.newarray .long, 2) := dk_188_11 (dk_at dksX7_init_0 13 rfl rfl)
theorem dX7_init_15 : decode cX7_init 15 = .ok (.putfield 15, 3) := dk_181 0 15 (dk_at dksX7_init_0 15 rfl rfl)
theorem dX7_init_18 : decode cX7_init 18 = .ok (.return_, 1) := dk_177 (dk_at dksX7_init_0 18 rfl rfl)
abbrev cX7_goes : ByteArray := prog_3_method_3_code
def yX7_goes : MethodName := ⟨RX7, "goes", "(LRoarMill$Works;ZIII)V"⟩
def dkwX7_goes_12 : List UInt8 := [180, 0, 20, 22, 9, 97, 181, 0, 20, 132, 6, 1, 167, 255, 150, 177]
abbrev dktX7_goes_12 : List UInt8 := dkwX7_goes_12 ++ []
def dkwX7_goes_11 : List UInt8 := [21, 6, 92, 47, 22, 7, 101, 80, 42, 180, 0, 15, 21, 6, 22, 7, 22, 9, 101, 80, 42, 89]
abbrev dktX7_goes_11 : List UInt8 := dkwX7_goes_11 ++ dktX7_goes_12
def dkwX7_goes_10 : List UInt8 := [180, 0, 49, 104, 184, 0, 52, 133, 105, 20, 0, 44, 109, 167, 0, 5, 22, 7, 55, 9, 42, 180, 0, 9]
abbrev dktX7_goes_10 : List UInt8 := dkwX7_goes_10 ++ dktX7_goes_11
def dkwX7_goes_9 : List UInt8 := [20, 0, 44, 109, 55, 7, 21, 6, 43, 180, 0, 46, 162, 0, 26, 22, 7, 16, 100, 21, 5, 43]
abbrev dktX7_goes_9 : List UInt8 := dkwX7_goes_9 ++ dktX7_goes_10
def dkwX7_goes_8 : List UInt8 := [180, 0, 24, 162, 0, 103, 42, 180, 0, 9, 21, 6, 47, 16, 20, 16, 10, 21, 4, 104, 96, 133, 105]
abbrev dktX7_goes_8 : List UInt8 := dkwX7_goes_8 ++ dktX7_goes_9
def dkwX7_goes_7 : List UInt8 := [5, 96, 92, 47, 22, 7, 22, 9, 101, 97, 80, 132, 6, 255, 167, 255, 133, 3, 54, 6, 21, 6, 43]
abbrev dktX7_goes_7 : List UInt8 := dkwX7_goes_7 ++ dktX7_goes_8
def dkwX7_goes_6 : List UInt8 := [21, 6, 4, 96, 92, 47, 22, 9, 97, 80, 22, 7, 22, 9, 148, 158, 0, 20, 42, 180, 0, 9, 21, 6]
abbrev dktX7_goes_6 : List UInt8 := dkwX7_goes_6 ++ dktX7_goes_7
def dkwX7_goes_5 : List UInt8 := [167, 0, 5, 22, 7, 55, 9, 42, 180, 0, 9, 21, 6, 92, 47, 22, 7, 101, 80, 42, 180, 0, 9]
abbrev dktX7_goes_5 : List UInt8 := dkwX7_goes_5 ++ dktX7_goes_6
def dkwX7_goes_4 : List UInt8 := [180, 0, 24, 162, 0, 24, 22, 7, 43, 180, 0, 30, 21, 6, 50, 180, 0, 41, 133, 105, 20, 0, 44, 109]
abbrev dktX7_goes_4 : List UInt8 := dkwX7_goes_4 ++ dktX7_goes_5
def dkwX7_goes_3 : List UInt8 := [21, 6, 50, 180, 0, 34, 133, 105, 29, 133, 105, 20, 0, 39, 109, 55, 7, 21, 6, 5, 96, 43]
abbrev dktX7_goes_3 : List UInt8 := dkwX7_goes_3 ++ dktX7_goes_4
def dkwX7_goes_2 : List UInt8 := [43, 180, 0, 24, 5, 100, 54, 6, 21, 6, 155, 0, 124, 42, 180, 0, 9, 21, 6, 47, 43, 180, 0, 30]
abbrev dktX7_goes_2 : List UInt8 := dkwX7_goes_2 ++ dktX7_goes_3
def dkwX7_goes_1 : List UInt8 := [21, 6, 47, 97, 80, 42, 180, 0, 15, 21, 6, 9, 80, 132, 6, 1, 167, 255, 219, 28, 153, 0, 4, 177]
abbrev dktX7_goes_1 : List UInt8 := dkwX7_goes_1 ++ dktX7_goes_2
def dkwX7_goes_0 : List UInt8 := [3, 54, 6, 21, 6, 43, 180, 0, 24, 162, 0, 34, 42, 180, 0, 9, 21, 6, 92, 47, 42, 180, 0, 15]
abbrev dktX7_goes_0 : List UInt8 := dkwX7_goes_0 ++ dktX7_goes_1
theorem dksX7_goes_0 : cX7_goes.data.toList.drop 0 = dktX7_goes_0 := by decide +kernel
theorem dksX7_goes_1 : cX7_goes.data.toList.drop 24 = dktX7_goes_1 := dk_seg dksX7_goes_0 24 rfl rfl
theorem dksX7_goes_2 : cX7_goes.data.toList.drop 48 = dktX7_goes_2 := dk_seg dksX7_goes_1 24 rfl rfl
theorem dksX7_goes_3 : cX7_goes.data.toList.drop 72 = dktX7_goes_3 := dk_seg dksX7_goes_2 24 rfl rfl
theorem dksX7_goes_4 : cX7_goes.data.toList.drop 94 = dktX7_goes_4 := dk_seg dksX7_goes_3 22 rfl rfl
theorem dksX7_goes_5 : cX7_goes.data.toList.drop 118 = dktX7_goes_5 := dk_seg dksX7_goes_4 24 rfl rfl
theorem dksX7_goes_6 : cX7_goes.data.toList.drop 141 = dktX7_goes_6 := dk_seg dksX7_goes_5 23 rfl rfl
theorem dksX7_goes_7 : cX7_goes.data.toList.drop 165 = dktX7_goes_7 := dk_seg dksX7_goes_6 24 rfl rfl
theorem dksX7_goes_8 : cX7_goes.data.toList.drop 188 = dktX7_goes_8 := dk_seg dksX7_goes_7 23 rfl rfl
theorem dksX7_goes_9 : cX7_goes.data.toList.drop 211 = dktX7_goes_9 := dk_seg dksX7_goes_8 23 rfl rfl
theorem dksX7_goes_10 : cX7_goes.data.toList.drop 233 = dktX7_goes_10 := dk_seg dksX7_goes_9 22 rfl rfl
theorem dksX7_goes_11 : cX7_goes.data.toList.drop 257 = dktX7_goes_11 := dk_seg dksX7_goes_10 24 rfl rfl
theorem dksX7_goes_12 : cX7_goes.data.toList.drop 279 = dktX7_goes_12 := dk_seg dksX7_goes_11 22 rfl rfl
theorem dX7_goes_0 : decode cX7_goes 0 = .ok (.iconst 0, 1) := dk_3 (dk_at dksX7_goes_0 0 rfl rfl)
theorem dX7_goes_1 : decode cX7_goes 1 = .ok (.istore 6, 2) := dk_54 6 (dk_at dksX7_goes_0 1 rfl rfl)
theorem dX7_goes_3 : decode cX7_goes 3 = .ok (.iload 6, 2) := dk_21 6 (dk_at dksX7_goes_0 3 rfl rfl)
theorem dX7_goes_5 : decode cX7_goes 5 = .ok (.aload_n 1, 1) := dk_43 (dk_at dksX7_goes_0 5 rfl rfl)
theorem dX7_goes_6 : decode cX7_goes 6 = .ok (.getfield 24, 3) := dk_180 0 24 (dk_at dksX7_goes_0 6 rfl rfl)
theorem dX7_goes_9 : decode cX7_goes 9 = .ok (.if_icmp .ge 34, 3) := dk_162 0 34 (dk_at dksX7_goes_0 9 rfl rfl)
theorem dX7_goes_12 : decode cX7_goes 12 = .ok (.aload_n 0, 1) := dk_42 (dk_at dksX7_goes_0 12 rfl rfl)
theorem dX7_goes_13 : decode cX7_goes 13 = .ok (.getfield 9, 3) := dk_180 0 9 (dk_at dksX7_goes_0 13 rfl rfl)
theorem dX7_goes_16 : decode cX7_goes 16 = .ok (.iload 6, 2) := dk_21 6 (dk_at dksX7_goes_0 16 rfl rfl)
theorem dX7_goes_18 : decode cX7_goes 18 = .ok (.dup2, 1) := dk_92 (dk_at dksX7_goes_0 18 rfl rfl)
theorem dX7_goes_19 : decode cX7_goes 19 = .ok (.laload, 1) := dk_47 (dk_at dksX7_goes_0 19 rfl rfl)
theorem dX7_goes_20 : decode cX7_goes 20 = .ok (.aload_n 0, 1) := dk_42 (dk_at dksX7_goes_0 20 rfl rfl)
theorem dX7_goes_21 : decode cX7_goes 21 = .ok (.getfield 15, 3) := dk_180 0 15 (dk_at dksX7_goes_0 21 rfl rfl)
theorem dX7_goes_24 : decode cX7_goes 24 = .ok (.iload 6, 2) := dk_21 6 (dk_at dksX7_goes_1 0 rfl rfl)
theorem dX7_goes_26 : decode cX7_goes 26 = .ok (.laload, 1) := dk_47 (dk_at dksX7_goes_1 2 rfl rfl)
theorem dX7_goes_27 : decode cX7_goes 27 = .ok (.ladd, 1) := dk_97 (dk_at dksX7_goes_1 3 rfl rfl)
theorem dX7_goes_28 : decode cX7_goes 28 = .ok (.lastore, 1) := dk_80 (dk_at dksX7_goes_1 4 rfl rfl)
theorem dX7_goes_29 : decode cX7_goes 29 = .ok (.aload_n 0, 1) := dk_42 (dk_at dksX7_goes_1 5 rfl rfl)
theorem dX7_goes_30 : decode cX7_goes 30 = .ok (.getfield 15, 3) := dk_180 0 15 (dk_at dksX7_goes_1 6 rfl rfl)
theorem dX7_goes_33 : decode cX7_goes 33 = .ok (.iload 6, 2) := dk_21 6 (dk_at dksX7_goes_1 9 rfl rfl)
theorem dX7_goes_35 : decode cX7_goes 35 = .ok (.lconst 0, 1) := dk_9 (dk_at dksX7_goes_1 11 rfl rfl)
theorem dX7_goes_36 : decode cX7_goes 36 = .ok (.lastore, 1) := dk_80 (dk_at dksX7_goes_1 12 rfl rfl)
theorem dX7_goes_37 : decode cX7_goes 37 = .ok (.iinc 6 1, 3) := dk_132 6 1 (dk_at dksX7_goes_1 13 rfl rfl)
theorem dX7_goes_40 : decode cX7_goes 40 = .ok (.goto (-37), 3) := dk_167 255 219 (dk_at dksX7_goes_1 16 rfl rfl)
theorem dX7_goes_43 : decode cX7_goes 43 = .ok (.iload_n 2, 1) := dk_28 (dk_at dksX7_goes_1 19 rfl rfl)
theorem dX7_goes_44 : decode cX7_goes 44 = .ok (.ifCond .eq 4, 3) := dk_153 0 4 (dk_at dksX7_goes_1 20 rfl rfl)
theorem dX7_goes_47 : decode cX7_goes 47 = .ok (.return_, 1) := dk_177 (dk_at dksX7_goes_1 23 rfl rfl)
theorem dX7_goes_48 : decode cX7_goes 48 = .ok (.aload_n 1, 1) := dk_43 (dk_at dksX7_goes_2 0 rfl rfl)
theorem dX7_goes_49 : decode cX7_goes 49 = .ok (.getfield 24, 3) := dk_180 0 24 (dk_at dksX7_goes_2 1 rfl rfl)
theorem dX7_goes_52 : decode cX7_goes 52 = .ok (.iconst 2, 1) := dk_5 (dk_at dksX7_goes_2 4 rfl rfl)
theorem dX7_goes_53 : decode cX7_goes 53 = .ok (.isub, 1) := dk_100 (dk_at dksX7_goes_2 5 rfl rfl)
theorem dX7_goes_54 : decode cX7_goes 54 = .ok (.istore 6, 2) := dk_54 6 (dk_at dksX7_goes_2 6 rfl rfl)
theorem dX7_goes_56 : decode cX7_goes 56 = .ok (.iload 6, 2) := dk_21 6 (dk_at dksX7_goes_2 8 rfl rfl)
theorem dX7_goes_58 : decode cX7_goes 58 = .ok (.ifCond .lt 124, 3) := dk_155 0 124 (dk_at dksX7_goes_2 10 rfl rfl)
theorem dX7_goes_61 : decode cX7_goes 61 = .ok (.aload_n 0, 1) := dk_42 (dk_at dksX7_goes_2 13 rfl rfl)
theorem dX7_goes_62 : decode cX7_goes 62 = .ok (.getfield 9, 3) := dk_180 0 9 (dk_at dksX7_goes_2 14 rfl rfl)
theorem dX7_goes_65 : decode cX7_goes 65 = .ok (.iload 6, 2) := dk_21 6 (dk_at dksX7_goes_2 17 rfl rfl)
theorem dX7_goes_67 : decode cX7_goes 67 = .ok (.laload, 1) := dk_47 (dk_at dksX7_goes_2 19 rfl rfl)
theorem dX7_goes_68 : decode cX7_goes 68 = .ok (.aload_n 1, 1) := dk_43 (dk_at dksX7_goes_2 20 rfl rfl)
theorem dX7_goes_69 : decode cX7_goes 69 = .ok (.getfield 30, 3) := dk_180 0 30 (dk_at dksX7_goes_2 21 rfl rfl)
theorem dX7_goes_72 : decode cX7_goes 72 = .ok (.iload 6, 2) := dk_21 6 (dk_at dksX7_goes_3 0 rfl rfl)
theorem dX7_goes_74 : decode cX7_goes 74 = .ok (.aaload, 1) := dk_50 (dk_at dksX7_goes_3 2 rfl rfl)
theorem dX7_goes_75 : decode cX7_goes 75 = .ok (.getfield 34, 3) := dk_180 0 34 (dk_at dksX7_goes_3 3 rfl rfl)
theorem dX7_goes_78 : decode cX7_goes 78 = .ok (.i2l, 1) := dk_133 (dk_at dksX7_goes_3 6 rfl rfl)
theorem dX7_goes_79 : decode cX7_goes 79 = .ok (.lmul, 1) := dk_105 (dk_at dksX7_goes_3 7 rfl rfl)
theorem dX7_goes_80 : decode cX7_goes 80 = .ok (.iload_n 3, 1) := dk_29 (dk_at dksX7_goes_3 8 rfl rfl)
theorem dX7_goes_81 : decode cX7_goes 81 = .ok (.i2l, 1) := dk_133 (dk_at dksX7_goes_3 9 rfl rfl)
theorem dX7_goes_82 : decode cX7_goes 82 = .ok (.lmul, 1) := dk_105 (dk_at dksX7_goes_3 10 rfl rfl)
theorem dX7_goes_83 : decode cX7_goes 83 = .ok (.ldc2_w 39, 3) := dk_20 0 39 (dk_at dksX7_goes_3 11 rfl rfl)
theorem dX7_goes_86 : decode cX7_goes 86 = .ok (.ldiv, 1) := dk_109 (dk_at dksX7_goes_3 14 rfl rfl)
theorem dX7_goes_87 : decode cX7_goes 87 = .ok (.lstore 7, 2) := dk_55 7 (dk_at dksX7_goes_3 15 rfl rfl)
theorem dX7_goes_89 : decode cX7_goes 89 = .ok (.iload 6, 2) := dk_21 6 (dk_at dksX7_goes_3 17 rfl rfl)
theorem dX7_goes_91 : decode cX7_goes 91 = .ok (.iconst 2, 1) := dk_5 (dk_at dksX7_goes_3 19 rfl rfl)
theorem dX7_goes_92 : decode cX7_goes 92 = .ok (.iadd, 1) := dk_96 (dk_at dksX7_goes_3 20 rfl rfl)
theorem dX7_goes_93 : decode cX7_goes 93 = .ok (.aload_n 1, 1) := dk_43 (dk_at dksX7_goes_3 21 rfl rfl)
theorem dX7_goes_94 : decode cX7_goes 94 = .ok (.getfield 24, 3) := dk_180 0 24 (dk_at dksX7_goes_4 0 rfl rfl)
theorem dX7_goes_97 : decode cX7_goes 97 = .ok (.if_icmp .ge 24, 3) := dk_162 0 24 (dk_at dksX7_goes_4 3 rfl rfl)
theorem dX7_goes_100 : decode cX7_goes 100 = .ok (.lload 7, 2) := dk_22 7 (dk_at dksX7_goes_4 6 rfl rfl)
theorem dX7_goes_102 : decode cX7_goes 102 = .ok (.aload_n 1, 1) := dk_43 (dk_at dksX7_goes_4 8 rfl rfl)
theorem dX7_goes_103 : decode cX7_goes 103 = .ok (.getfield 30, 3) := dk_180 0 30 (dk_at dksX7_goes_4 9 rfl rfl)
theorem dX7_goes_106 : decode cX7_goes 106 = .ok (.iload 6, 2) := dk_21 6 (dk_at dksX7_goes_4 12 rfl rfl)
theorem dX7_goes_108 : decode cX7_goes 108 = .ok (.aaload, 1) := dk_50 (dk_at dksX7_goes_4 14 rfl rfl)
theorem dX7_goes_109 : decode cX7_goes 109 = .ok (.getfield 41, 3) := dk_180 0 41 (dk_at dksX7_goes_4 15 rfl rfl)
theorem dX7_goes_112 : decode cX7_goes 112 = .ok (.i2l, 1) := dk_133 (dk_at dksX7_goes_4 18 rfl rfl)
theorem dX7_goes_113 : decode cX7_goes 113 = .ok (.lmul, 1) := dk_105 (dk_at dksX7_goes_4 19 rfl rfl)
theorem dX7_goes_114 : decode cX7_goes 114 = .ok (.ldc2_w 44, 3) := dk_20 0 44 (dk_at dksX7_goes_4 20 rfl rfl)
theorem dX7_goes_117 : decode cX7_goes 117 = .ok (.ldiv, 1) := dk_109 (dk_at dksX7_goes_4 23 rfl rfl)
theorem dX7_goes_118 : decode cX7_goes 118 = .ok (.goto 5, 3) := dk_167 0 5 (dk_at dksX7_goes_5 0 rfl rfl)
theorem dX7_goes_121 : decode cX7_goes 121 = .ok (.lload 7, 2) := dk_22 7 (dk_at dksX7_goes_5 3 rfl rfl)
theorem dX7_goes_123 : decode cX7_goes 123 = .ok (.lstore 9, 2) := dk_55 9 (dk_at dksX7_goes_5 5 rfl rfl)
theorem dX7_goes_125 : decode cX7_goes 125 = .ok (.aload_n 0, 1) := dk_42 (dk_at dksX7_goes_5 7 rfl rfl)
theorem dX7_goes_126 : decode cX7_goes 126 = .ok (.getfield 9, 3) := dk_180 0 9 (dk_at dksX7_goes_5 8 rfl rfl)
theorem dX7_goes_129 : decode cX7_goes 129 = .ok (.iload 6, 2) := dk_21 6 (dk_at dksX7_goes_5 11 rfl rfl)
theorem dX7_goes_131 : decode cX7_goes 131 = .ok (.dup2, 1) := dk_92 (dk_at dksX7_goes_5 13 rfl rfl)
theorem dX7_goes_132 : decode cX7_goes 132 = .ok (.laload, 1) := dk_47 (dk_at dksX7_goes_5 14 rfl rfl)
theorem dX7_goes_133 : decode cX7_goes 133 = .ok (.lload 7, 2) := dk_22 7 (dk_at dksX7_goes_5 15 rfl rfl)
theorem dX7_goes_135 : decode cX7_goes 135 = .ok (.lsub, 1) := dk_101 (dk_at dksX7_goes_5 17 rfl rfl)
theorem dX7_goes_136 : decode cX7_goes 136 = .ok (.lastore, 1) := dk_80 (dk_at dksX7_goes_5 18 rfl rfl)
theorem dX7_goes_137 : decode cX7_goes 137 = .ok (.aload_n 0, 1) := dk_42 (dk_at dksX7_goes_5 19 rfl rfl)
theorem dX7_goes_138 : decode cX7_goes 138 = .ok (.getfield 9, 3) := dk_180 0 9 (dk_at dksX7_goes_5 20 rfl rfl)
theorem dX7_goes_141 : decode cX7_goes 141 = .ok (.iload 6, 2) := dk_21 6 (dk_at dksX7_goes_6 0 rfl rfl)
theorem dX7_goes_143 : decode cX7_goes 143 = .ok (.iconst 1, 1) := dk_4 (dk_at dksX7_goes_6 2 rfl rfl)
theorem dX7_goes_144 : decode cX7_goes 144 = .ok (.iadd, 1) := dk_96 (dk_at dksX7_goes_6 3 rfl rfl)
theorem dX7_goes_145 : decode cX7_goes 145 = .ok (.dup2, 1) := dk_92 (dk_at dksX7_goes_6 4 rfl rfl)
theorem dX7_goes_146 : decode cX7_goes 146 = .ok (.laload, 1) := dk_47 (dk_at dksX7_goes_6 5 rfl rfl)
theorem dX7_goes_147 : decode cX7_goes 147 = .ok (.lload 9, 2) := dk_22 9 (dk_at dksX7_goes_6 6 rfl rfl)
theorem dX7_goes_149 : decode cX7_goes 149 = .ok (.ladd, 1) := dk_97 (dk_at dksX7_goes_6 8 rfl rfl)
theorem dX7_goes_150 : decode cX7_goes 150 = .ok (.lastore, 1) := dk_80 (dk_at dksX7_goes_6 9 rfl rfl)
theorem dX7_goes_151 : decode cX7_goes 151 = .ok (.lload 7, 2) := dk_22 7 (dk_at dksX7_goes_6 10 rfl rfl)
theorem dX7_goes_153 : decode cX7_goes 153 = .ok (.lload 9, 2) := dk_22 9 (dk_at dksX7_goes_6 12 rfl rfl)
theorem dX7_goes_155 : decode cX7_goes 155 = .ok (.lcmp, 1) := dk_148 (dk_at dksX7_goes_6 14 rfl rfl)
theorem dX7_goes_156 : decode cX7_goes 156 = .ok (.ifCond .le 20, 3) := dk_158 0 20 (dk_at dksX7_goes_6 15 rfl rfl)
theorem dX7_goes_159 : decode cX7_goes 159 = .ok (.aload_n 0, 1) := dk_42 (dk_at dksX7_goes_6 18 rfl rfl)
theorem dX7_goes_160 : decode cX7_goes 160 = .ok (.getfield 9, 3) := dk_180 0 9 (dk_at dksX7_goes_6 19 rfl rfl)
theorem dX7_goes_163 : decode cX7_goes 163 = .ok (.iload 6, 2) := dk_21 6 (dk_at dksX7_goes_6 22 rfl rfl)
theorem dX7_goes_165 : decode cX7_goes 165 = .ok (.iconst 2, 1) := dk_5 (dk_at dksX7_goes_7 0 rfl rfl)
theorem dX7_goes_166 : decode cX7_goes 166 = .ok (.iadd, 1) := dk_96 (dk_at dksX7_goes_7 1 rfl rfl)
theorem dX7_goes_167 : decode cX7_goes 167 = .ok (.dup2, 1) := dk_92 (dk_at dksX7_goes_7 2 rfl rfl)
theorem dX7_goes_168 : decode cX7_goes 168 = .ok (.laload, 1) := dk_47 (dk_at dksX7_goes_7 3 rfl rfl)
theorem dX7_goes_169 : decode cX7_goes 169 = .ok (.lload 7, 2) := dk_22 7 (dk_at dksX7_goes_7 4 rfl rfl)
theorem dX7_goes_171 : decode cX7_goes 171 = .ok (.lload 9, 2) := dk_22 9 (dk_at dksX7_goes_7 6 rfl rfl)
theorem dX7_goes_173 : decode cX7_goes 173 = .ok (.lsub, 1) := dk_101 (dk_at dksX7_goes_7 8 rfl rfl)
theorem dX7_goes_174 : decode cX7_goes 174 = .ok (.ladd, 1) := dk_97 (dk_at dksX7_goes_7 9 rfl rfl)
theorem dX7_goes_175 : decode cX7_goes 175 = .ok (.lastore, 1) := dk_80 (dk_at dksX7_goes_7 10 rfl rfl)
theorem dX7_goes_176 : decode cX7_goes 176 = .ok (.iinc 6 (-1), 3) := dk_132 6 255 (dk_at dksX7_goes_7 11 rfl rfl)
theorem dX7_goes_179 : decode cX7_goes 179 = .ok (.goto (-123), 3) := dk_167 255 133 (dk_at dksX7_goes_7 14 rfl rfl)
theorem dX7_goes_182 : decode cX7_goes 182 = .ok (.iconst 0, 1) := dk_3 (dk_at dksX7_goes_7 17 rfl rfl)
theorem dX7_goes_183 : decode cX7_goes 183 = .ok (.istore 6, 2) := dk_54 6 (dk_at dksX7_goes_7 18 rfl rfl)
theorem dX7_goes_185 : decode cX7_goes 185 = .ok (.iload 6, 2) := dk_21 6 (dk_at dksX7_goes_7 20 rfl rfl)
theorem dX7_goes_187 : decode cX7_goes 187 = .ok (.aload_n 1, 1) := dk_43 (dk_at dksX7_goes_7 22 rfl rfl)
theorem dX7_goes_188 : decode cX7_goes 188 = .ok (.getfield 24, 3) := dk_180 0 24 (dk_at dksX7_goes_8 0 rfl rfl)
theorem dX7_goes_191 : decode cX7_goes 191 = .ok (.if_icmp .ge 103, 3) := dk_162 0 103 (dk_at dksX7_goes_8 3 rfl rfl)
theorem dX7_goes_194 : decode cX7_goes 194 = .ok (.aload_n 0, 1) := dk_42 (dk_at dksX7_goes_8 6 rfl rfl)
theorem dX7_goes_195 : decode cX7_goes 195 = .ok (.getfield 9, 3) := dk_180 0 9 (dk_at dksX7_goes_8 7 rfl rfl)
theorem dX7_goes_198 : decode cX7_goes 198 = .ok (.iload 6, 2) := dk_21 6 (dk_at dksX7_goes_8 10 rfl rfl)
theorem dX7_goes_200 : decode cX7_goes 200 = .ok (.laload, 1) := dk_47 (dk_at dksX7_goes_8 12 rfl rfl)
theorem dX7_goes_201 : decode cX7_goes 201 = .ok (.bipush 20, 2) := dk_16 20 (dk_at dksX7_goes_8 13 rfl rfl)
theorem dX7_goes_203 : decode cX7_goes 203 = .ok (.bipush 10, 2) := dk_16 10 (dk_at dksX7_goes_8 15 rfl rfl)
theorem dX7_goes_205 : decode cX7_goes 205 = .ok (.iload 4, 2) := dk_21 4 (dk_at dksX7_goes_8 17 rfl rfl)
theorem dX7_goes_207 : decode cX7_goes 207 = .ok (.imul, 1) := dk_104 (dk_at dksX7_goes_8 19 rfl rfl)
theorem dX7_goes_208 : decode cX7_goes 208 = .ok (.iadd, 1) := dk_96 (dk_at dksX7_goes_8 20 rfl rfl)
theorem dX7_goes_209 : decode cX7_goes 209 = .ok (.i2l, 1) := dk_133 (dk_at dksX7_goes_8 21 rfl rfl)
theorem dX7_goes_210 : decode cX7_goes 210 = .ok (.lmul, 1) := dk_105 (dk_at dksX7_goes_8 22 rfl rfl)
theorem dX7_goes_211 : decode cX7_goes 211 = .ok (.ldc2_w 44, 3) := dk_20 0 44 (dk_at dksX7_goes_9 0 rfl rfl)
theorem dX7_goes_214 : decode cX7_goes 214 = .ok (.ldiv, 1) := dk_109 (dk_at dksX7_goes_9 3 rfl rfl)
theorem dX7_goes_215 : decode cX7_goes 215 = .ok (.lstore 7, 2) := dk_55 7 (dk_at dksX7_goes_9 4 rfl rfl)
theorem dX7_goes_217 : decode cX7_goes 217 = .ok (.iload 6, 2) := dk_21 6 (dk_at dksX7_goes_9 6 rfl rfl)
theorem dX7_goes_219 : decode cX7_goes 219 = .ok (.aload_n 1, 1) := dk_43 (dk_at dksX7_goes_9 8 rfl rfl)
theorem dX7_goes_220 : decode cX7_goes 220 = .ok (.getfield 46, 3) := dk_180 0 46 (dk_at dksX7_goes_9 9 rfl rfl)
theorem dX7_goes_223 : decode cX7_goes 223 = .ok (.if_icmp .ge 26, 3) := dk_162 0 26 (dk_at dksX7_goes_9 12 rfl rfl)
theorem dX7_goes_226 : decode cX7_goes 226 = .ok (.lload 7, 2) := dk_22 7 (dk_at dksX7_goes_9 15 rfl rfl)
theorem dX7_goes_228 : decode cX7_goes 228 = .ok (.bipush 100, 2) := dk_16 100 (dk_at dksX7_goes_9 17 rfl rfl)
theorem dX7_goes_230 : decode cX7_goes 230 = .ok (.iload 5, 2) := dk_21 5 (dk_at dksX7_goes_9 19 rfl rfl)
theorem dX7_goes_232 : decode cX7_goes 232 = .ok (.aload_n 1, 1) := dk_43 (dk_at dksX7_goes_9 21 rfl rfl)
theorem dX7_goes_233 : decode cX7_goes 233 = .ok (.getfield 49, 3) := dk_180 0 49 (dk_at dksX7_goes_10 0 rfl rfl)
theorem dX7_goes_236 : decode cX7_goes 236 = .ok (.imul, 1) := dk_104 (dk_at dksX7_goes_10 3 rfl rfl)
theorem dX7_goes_237 : decode cX7_goes 237 = .ok (.invokestatic 52, 3) := dk_184 0 52 (dk_at dksX7_goes_10 4 rfl rfl)
theorem dX7_goes_240 : decode cX7_goes 240 = .ok (.i2l, 1) := dk_133 (dk_at dksX7_goes_10 7 rfl rfl)
theorem dX7_goes_241 : decode cX7_goes 241 = .ok (.lmul, 1) := dk_105 (dk_at dksX7_goes_10 8 rfl rfl)
theorem dX7_goes_242 : decode cX7_goes 242 = .ok (.ldc2_w 44, 3) := dk_20 0 44 (dk_at dksX7_goes_10 9 rfl rfl)
theorem dX7_goes_245 : decode cX7_goes 245 = .ok (.ldiv, 1) := dk_109 (dk_at dksX7_goes_10 12 rfl rfl)
theorem dX7_goes_246 : decode cX7_goes 246 = .ok (.goto 5, 3) := dk_167 0 5 (dk_at dksX7_goes_10 13 rfl rfl)
theorem dX7_goes_249 : decode cX7_goes 249 = .ok (.lload 7, 2) := dk_22 7 (dk_at dksX7_goes_10 16 rfl rfl)
theorem dX7_goes_251 : decode cX7_goes 251 = .ok (.lstore 9, 2) := dk_55 9 (dk_at dksX7_goes_10 18 rfl rfl)
theorem dX7_goes_253 : decode cX7_goes 253 = .ok (.aload_n 0, 1) := dk_42 (dk_at dksX7_goes_10 20 rfl rfl)
theorem dX7_goes_254 : decode cX7_goes 254 = .ok (.getfield 9, 3) := dk_180 0 9 (dk_at dksX7_goes_10 21 rfl rfl)
theorem dX7_goes_257 : decode cX7_goes 257 = .ok (.iload 6, 2) := dk_21 6 (dk_at dksX7_goes_11 0 rfl rfl)
theorem dX7_goes_259 : decode cX7_goes 259 = .ok (.dup2, 1) := dk_92 (dk_at dksX7_goes_11 2 rfl rfl)
theorem dX7_goes_260 : decode cX7_goes 260 = .ok (.laload, 1) := dk_47 (dk_at dksX7_goes_11 3 rfl rfl)
theorem dX7_goes_261 : decode cX7_goes 261 = .ok (.lload 7, 2) := dk_22 7 (dk_at dksX7_goes_11 4 rfl rfl)
theorem dX7_goes_263 : decode cX7_goes 263 = .ok (.lsub, 1) := dk_101 (dk_at dksX7_goes_11 6 rfl rfl)
theorem dX7_goes_264 : decode cX7_goes 264 = .ok (.lastore, 1) := dk_80 (dk_at dksX7_goes_11 7 rfl rfl)
theorem dX7_goes_265 : decode cX7_goes 265 = .ok (.aload_n 0, 1) := dk_42 (dk_at dksX7_goes_11 8 rfl rfl)
theorem dX7_goes_266 : decode cX7_goes 266 = .ok (.getfield 15, 3) := dk_180 0 15 (dk_at dksX7_goes_11 9 rfl rfl)
theorem dX7_goes_269 : decode cX7_goes 269 = .ok (.iload 6, 2) := dk_21 6 (dk_at dksX7_goes_11 12 rfl rfl)
theorem dX7_goes_271 : decode cX7_goes 271 = .ok (.lload 7, 2) := dk_22 7 (dk_at dksX7_goes_11 14 rfl rfl)
theorem dX7_goes_273 : decode cX7_goes 273 = .ok (.lload 9, 2) := dk_22 9 (dk_at dksX7_goes_11 16 rfl rfl)
theorem dX7_goes_275 : decode cX7_goes 275 = .ok (.lsub, 1) := dk_101 (dk_at dksX7_goes_11 18 rfl rfl)
theorem dX7_goes_276 : decode cX7_goes 276 = .ok (.lastore, 1) := dk_80 (dk_at dksX7_goes_11 19 rfl rfl)
theorem dX7_goes_277 : decode cX7_goes 277 = .ok (.aload_n 0, 1) := dk_42 (dk_at dksX7_goes_11 20 rfl rfl)
theorem dX7_goes_278 : decode cX7_goes 278 = .ok (.dup, 1) := dk_89 (dk_at dksX7_goes_11 21 rfl rfl)
theorem dX7_goes_279 : decode cX7_goes 279 = .ok (.getfield 20, 3) := dk_180 0 20 (dk_at dksX7_goes_12 0 rfl rfl)
theorem dX7_goes_282 : decode cX7_goes 282 = .ok (.lload 9, 2) := dk_22 9 (dk_at dksX7_goes_12 3 rfl rfl)
theorem dX7_goes_284 : decode cX7_goes 284 = .ok (.ladd, 1) := dk_97 (dk_at dksX7_goes_12 5 rfl rfl)
theorem dX7_goes_285 : decode cX7_goes 285 = .ok (.putfield 20, 3) := dk_181 0 20 (dk_at dksX7_goes_12 6 rfl rfl)
theorem dX7_goes_288 : decode cX7_goes 288 = .ok (.iinc 6 1, 3) := dk_132 6 1 (dk_at dksX7_goes_12 9 rfl rfl)
theorem dX7_goes_291 : decode cX7_goes 291 = .ok (.goto (-106), 3) := dk_167 255 150 (dk_at dksX7_goes_12 12 rfl rfl)
theorem dX7_goes_294 : decode cX7_goes 294 = .ok (.return_, 1) := dk_177 (dk_at dksX7_goes_12 15 rfl rfl)
abbrev cX7_begins : ByteArray := prog_3_method_2_code
def yX7_begins : MethodName := ⟨RX7, "begins", "(I)V"⟩
def dkwX7_begins_1 : List UInt8 := [80, 42, 180, 0, 15, 28, 9, 80, 132, 2, 1, 167, 255, 223, 42, 9, 181, 0, 20, 177]
abbrev dktX7_begins_1 : List UInt8 := dkwX7_begins_1 ++ []
def dkwX7_begins_0 : List UInt8 := [3, 61, 28, 8, 162, 0, 34, 42, 180, 0, 9, 28, 28, 27, 160, 0, 9, 20, 0, 18, 167, 0, 4, 9]
abbrev dktX7_begins_0 : List UInt8 := dkwX7_begins_0 ++ dktX7_begins_1
theorem dksX7_begins_0 : cX7_begins.data.toList.drop 0 = dktX7_begins_0 := by decide +kernel
theorem dksX7_begins_1 : cX7_begins.data.toList.drop 24 = dktX7_begins_1 := dk_seg dksX7_begins_0 24 rfl rfl
theorem dX7_begins_0 : decode cX7_begins 0 = .ok (.iconst 0, 1) := dk_3 (dk_at dksX7_begins_0 0 rfl rfl)
theorem dX7_begins_1 : decode cX7_begins 1 = .ok (.istore_n 2, 1) := dk_61 (dk_at dksX7_begins_0 1 rfl rfl)
theorem dX7_begins_2 : decode cX7_begins 2 = .ok (.iload_n 2, 1) := dk_28 (dk_at dksX7_begins_0 2 rfl rfl)
theorem dX7_begins_3 : decode cX7_begins 3 = .ok (.iconst 5, 1) := dk_8 (dk_at dksX7_begins_0 3 rfl rfl)
theorem dX7_begins_4 : decode cX7_begins 4 = .ok (.if_icmp .ge 34, 3) := dk_162 0 34 (dk_at dksX7_begins_0 4 rfl rfl)
theorem dX7_begins_7 : decode cX7_begins 7 = .ok (.aload_n 0, 1) := dk_42 (dk_at dksX7_begins_0 7 rfl rfl)
theorem dX7_begins_8 : decode cX7_begins 8 = .ok (.getfield 9, 3) := dk_180 0 9 (dk_at dksX7_begins_0 8 rfl rfl)
theorem dX7_begins_11 : decode cX7_begins 11 = .ok (.iload_n 2, 1) := dk_28 (dk_at dksX7_begins_0 11 rfl rfl)
theorem dX7_begins_12 : decode cX7_begins 12 = .ok (.iload_n 2, 1) := dk_28 (dk_at dksX7_begins_0 12 rfl rfl)
theorem dX7_begins_13 : decode cX7_begins 13 = .ok (.iload_n 1, 1) := dk_27 (dk_at dksX7_begins_0 13 rfl rfl)
theorem dX7_begins_14 : decode cX7_begins 14 = .ok (.if_icmp .ne 9, 3) := dk_160 0 9 (dk_at dksX7_begins_0 14 rfl rfl)
theorem dX7_begins_17 : decode cX7_begins 17 = .ok (.ldc2_w 18, 3) := dk_20 0 18 (dk_at dksX7_begins_0 17 rfl rfl)
theorem dX7_begins_20 : decode cX7_begins 20 = .ok (.goto 4, 3) := dk_167 0 4 (dk_at dksX7_begins_0 20 rfl rfl)
theorem dX7_begins_23 : decode cX7_begins 23 = .ok (.lconst 0, 1) := dk_9 (dk_at dksX7_begins_0 23 rfl rfl)
theorem dX7_begins_24 : decode cX7_begins 24 = .ok (.lastore, 1) := dk_80 (dk_at dksX7_begins_1 0 rfl rfl)
theorem dX7_begins_25 : decode cX7_begins 25 = .ok (.aload_n 0, 1) := dk_42 (dk_at dksX7_begins_1 1 rfl rfl)
theorem dX7_begins_26 : decode cX7_begins 26 = .ok (.getfield 15, 3) := dk_180 0 15 (dk_at dksX7_begins_1 2 rfl rfl)
theorem dX7_begins_29 : decode cX7_begins 29 = .ok (.iload_n 2, 1) := dk_28 (dk_at dksX7_begins_1 5 rfl rfl)
theorem dX7_begins_30 : decode cX7_begins 30 = .ok (.lconst 0, 1) := dk_9 (dk_at dksX7_begins_1 6 rfl rfl)
theorem dX7_begins_31 : decode cX7_begins 31 = .ok (.lastore, 1) := dk_80 (dk_at dksX7_begins_1 7 rfl rfl)
theorem dX7_begins_32 : decode cX7_begins 32 = .ok (.iinc 2 1, 3) := dk_132 2 1 (dk_at dksX7_begins_1 8 rfl rfl)
theorem dX7_begins_35 : decode cX7_begins 35 = .ok (.goto (-33), 3) := dk_167 255 223 (dk_at dksX7_begins_1 11 rfl rfl)
theorem dX7_begins_38 : decode cX7_begins 38 = .ok (.aload_n 0, 1) := dk_42 (dk_at dksX7_begins_1 14 rfl rfl)
theorem dX7_begins_39 : decode cX7_begins 39 = .ok (.lconst 0, 1) := dk_9 (dk_at dksX7_begins_1 15 rfl rfl)
theorem dX7_begins_40 : decode cX7_begins 40 = .ok (.putfield 20, 3) := dk_181 0 20 (dk_at dksX7_begins_1 16 rfl rfl)
theorem dX7_begins_43 : decode cX7_begins 43 = .ok (.return_, 1) := dk_177 (dk_at dksX7_begins_1 19 rfl rfl)
theorem q92 : (Jvm.Cond.initialized "RoarMill$Led") ∈ lw_all := lw_g (lw_at lw_m1 10 rfl) rfl
theorem q347 : (Jvm.Cond.instantiable "RoarMill$Led" (3 : Nat)) ∈ lw_all := lw_g (lw_at lw_m2 25 rfl) rfl
theorem q349 : (Jvm.Cond.instanceMethod ({ cls := "RoarMill$Led", name := "<init>", desc := "()V" } : Jvm.MethodName)) ∈ lw_all := lw_g (lw_at lw_m2 27 rfl) rfl
theorem q350 : (Jvm.Cond.code ({ cls := "RoarMill$Led", name := "<init>", desc := "()V" } : Jvm.MethodName) prog_3_method_1_code (1 : Nat) (Option.none : Option Jvm.ClassFile.FieldType)) ∈ lw_all := lw_g (lw_at lw_m2 28 rfl) rfl
theorem q351 : (Jvm.Cond.methodLink "RoarMill$Led" (3 : Nat) ({ cls := "java/lang/Object", name := "<init>", desc := "()V" } : Jvm.MethodName)) ∈ lw_all := lw_g (lw_at lw_m2 29 rfl) rfl
theorem q352 : (Jvm.Cond.fieldLink "RoarMill$Led" (9 : Nat) "RoarMill$Led" "held" "[J") ∈ lw_all := lw_g (lw_at lw_m2 30 rfl) rfl
theorem q353 : (Jvm.Cond.fieldLink "RoarMill$Led" (15 : Nat) "RoarMill$Led" "back" "[J") ∈ lw_all := lw_g (lw_at lw_m2 31 rfl) rfl
theorem q354 : (Jvm.Cond.fieldLink "RoarMill$Led" (20 : Nat) "RoarMill$Led" "passed" "J") ∈ lw_all := lw_g (lw_at lw_m2 32 rfl) rfl
theorem q356 : (Jvm.Cond.laysFinal "RoarMill$Led" "RoarMill$Led" "held" "[J") ∈ lw_all := lw_g (lw_at lw_m2 34 rfl) rfl
theorem q357 : (Jvm.Cond.soleField "RoarMill$Led" "held") ∈ lw_all := lw_g (lw_at lw_m2 35 rfl) rfl
theorem q358 : (Jvm.Cond.laysFinal "RoarMill$Led" "RoarMill$Led" "back" "[J") ∈ lw_all := lw_g (lw_at lw_m2 36 rfl) rfl
theorem q359 : (Jvm.Cond.soleField "RoarMill$Led" "back") ∈ lw_all := lw_g (lw_at lw_m2 37 rfl) rfl
theorem q360 : (Jvm.Cond.lays "RoarMill$Led" "RoarMill$Led" "passed" "J") ∈ lw_all := lw_g (lw_at lw_m2 38 rfl) rfl
theorem q361 : (Jvm.Cond.soleField "RoarMill$Led" "passed") ∈ lw_all := lw_g (lw_at lw_m2 39 rfl) rfl
theorem q362 : (Jvm.Cond.superclass "RoarMill$Led" "java/lang/Object") ∈ lw_all := lw_g (lw_at lw_m2 40 rfl) rfl
theorem q491 : (Jvm.Cond.fieldLink "RoarMill$Led" (30 : Nat) "RoarMill$Works" "sizes" "[LRoarMill$Size;") ∈ lw_all := lw_g (lw_at lw_m2 169 rfl) rfl
theorem q501 : (Jvm.Cond.fieldLink "RoarMill$Led" (24 : Nat) "RoarMill$Works" "sizeMany" "I") ∈ lw_all := lw_g (lw_at lw_m2 179 rfl) rfl
theorem q520 : (Jvm.Cond.fieldLink "RoarMill$Led" (46 : Nat) "RoarMill$Works" "sieve" "I") ∈ lw_all := lw_g (lw_at lw_m2 198 rfl) rfl
theorem q524 : (Jvm.Cond.fieldLink "RoarMill$Led" (49 : Nat) "RoarMill$Works" "slips" "I") ∈ lw_all := lw_g (lw_at lw_m2 202 rfl) rfl
theorem q810 : (Jvm.Cond.fieldLink "RoarMill$Led" (34 : Nat) "RoarMill$Size" "breaks" "I") ∈ lw_all := lw_g (lw_at lw_m4 8 rfl) rfl
theorem q813 : (Jvm.Cond.fieldLink "RoarMill$Led" (41 : Nat) "RoarMill$Size" "next" "I") ∈ lw_all := lw_g (lw_at lw_m4 11 rfl) rfl
theorem q912 : (Jvm.Cond.castable "RoarMill$Led" "RoarMill$Follows") ∈ lw_tbl := lw_at lw_m4 110 rfl
theorem q913 : (Jvm.Cond.selects "RoarMill$Led" ({ cls := "RoarMill$Follows", name := "goes", desc := "(LRoarMill$Works;ZIII)V" } : Jvm.MethodName) ({ cls := "RoarMill$Led", name := "goes", desc := "(LRoarMill$Works;ZIII)V" } : Jvm.MethodName)) ∈ lw_all := lw_g (lw_at lw_m4 111 rfl) rfl
theorem q914 : (Jvm.Cond.unhidden "RoarMill$Led" "goes" "(LRoarMill$Works;ZIII)V") ∈ lw_tbl := lw_at lw_m4 112 rfl
theorem q915 : (Jvm.Cond.instanceMethod ({ cls := "RoarMill$Led", name := "goes", desc := "(LRoarMill$Works;ZIII)V" } : Jvm.MethodName)) ∈ lw_all := lw_g (lw_at lw_m4 113 rfl) rfl
theorem q916 : (Jvm.Cond.publicMethod ({ cls := "RoarMill$Led", name := "goes", desc := "(LRoarMill$Works;ZIII)V" } : Jvm.MethodName)) ∈ lw_tbl := lw_at lw_m4 114 rfl
theorem q917 : (Jvm.Cond.code ({ cls := "RoarMill$Led", name := "goes", desc := "(LRoarMill$Works;ZIII)V" } : Jvm.MethodName) prog_3_method_3_code (11 : Nat) (Option.none : Option Jvm.ClassFile.FieldType)) ∈ lw_all := lw_g (lw_at lw_m4 115 rfl) rfl
theorem q918 : (Jvm.Cond.constantLong "RoarMill$Led" (39 : Nat) (10000 : Int64)) ∈ lw_all := lw_g (lw_at lw_m4 116 rfl) rfl
theorem q919 : (Jvm.Cond.constantLong "RoarMill$Led" (44 : Nat) (100 : Int64)) ∈ lw_all := lw_g (lw_at lw_m4 117 rfl) rfl
theorem q920 : (Jvm.Cond.methodLink "RoarMill$Led" (52 : Nat) ({ cls := "java/lang/Math", name := "min", desc := "(II)I" } : Jvm.MethodName)) ∈ lw_all := lw_g (lw_at lw_m4 118 rfl) rfl
theorem q1094 : (Jvm.Cond.instanceMethod ({ cls := "RoarMill$Led", name := "begins", desc := "(I)V" } : Jvm.MethodName)) ∈ lw_all := lw_g (lw_at lw_m5 52 rfl) rfl
theorem q1095 : (Jvm.Cond.selects "RoarMill$Led" ({ cls := "RoarMill$Led", name := "begins", desc := "(I)V" } : Jvm.MethodName) ({ cls := "RoarMill$Led", name := "begins", desc := "(I)V" } : Jvm.MethodName)) ∈ lw_all := lw_g (lw_at lw_m5 53 rfl) rfl
theorem q1096 : (Jvm.Cond.code ({ cls := "RoarMill$Led", name := "begins", desc := "(I)V" } : Jvm.MethodName) prog_3_method_2_code (3 : Nat) (Option.none : Option Jvm.ClassFile.FieldType)) ∈ lw_all := lw_g (lw_at lw_m5 54 rfl) rfl
theorem q1097 : (Jvm.Cond.constantLong "RoarMill$Led" (18 : Nat) (1000000 : Int64)) ∈ lw_all := lw_g (lw_at lw_m5 55 rfl) rfl
theorem q1701 : (Jvm.Cond.castable "RoarMill$Led" "java/lang/Object") ∈ lw_tbl := lw_at lw_m7 179 rfl
theorem in_X7 : ∀ w ∈ wsX70, w ∈ lw_all := lw_in wsX70 [356, 358, 360] (by decide +kernel) (by decide +kernel)

/-! RoarMill$Works -/
set_option maxRecDepth 100000
def RX9 : String := "RoarMill$Works"
def TX9 : u_T := fun k => match k with
  | 0 => ("RoarMill$Works", "sizes", "[LRoarMill$Size;", true)
  | 1 => ("RoarMill$Works", "ores", "[LRoarMill$Ore;", true)
  | 2 => ("RoarMill$Works", "prices", "[I", true)
  | 3 => ("RoarMill$Works", "sizeMany", "I", false)
  | 4 => ("RoarMill$Works", "oreMany", "I", false)
  | 5 => ("RoarMill$Works", "priceMany", "I", false)
  | 6 => ("RoarMill$Works", "room", "I", false)
  | 7 => ("RoarMill$Works", "loud", "I", false)
  | 8 => ("RoarMill$Works", "sieve", "I", false)
  | 9 => ("RoarMill$Works", "slips", "I", false)
  | 10 => ("RoarMill$Works", "life", "I", false)
  | 11 => ("RoarMill$Works", "bin", "I", false)
  | _ => ("RoarMill$Works", "draws", "I", false)
def tyX9 : Nat → FieldType := fun k => match k with
  | 0 => .array (.object "RoarMill$Size")
  | 1 => .array (.object "RoarMill$Ore")
  | 2 => .array .int
  | 3 => .int
  | 4 => .int
  | 5 => .int
  | 6 => .int
  | 7 => .int
  | 8 => .int
  | 9 => .int
  | 10 => .int
  | 11 => .int
  | _ => .int
abbrev wsX90 : List Cond := u_ws RX9 TX9 13
set_option maxRecDepth 100000 in
theorem nmX9 : ∀ a, a < 13 → ∀ b, b < 13 → a ≠ b → (TX9 a).2.1 ≠ (TX9 b).2.1 := by decide +kernel
set_option maxRecDepth 100000 in
theorem tyX9_ok : ∀ k, k < 13 → parseFieldDescriptor (TX9 k).2.2.1 = some (tyX9 k) := by decide +kernel
abbrev cX9_init : ByteArray := prog_12_method_1_code
def yX9_init : MethodName := ⟨RX9, "<init>", "()V"⟩
def dkwX9_init_1 : List UInt8 := [188, 10, 181, 0, 23, 42, 2, 181, 0, 27, 42, 2, 181, 0, 31, 177]
abbrev dktX9_init_1 : List UInt8 := dkwX9_init_1 ++ []
def dkwX9_init_0 : List UInt8 := [42, 183, 0, 3, 42, 8, 189, 0, 9, 181, 0, 11, 42, 7, 189, 0, 17, 181, 0, 19, 42, 16, 6]
abbrev dktX9_init_0 : List UInt8 := dkwX9_init_0 ++ dktX9_init_1
theorem dksX9_init_0 : cX9_init.data.toList.drop 0 = dktX9_init_0 := by decide +kernel
theorem dksX9_init_1 : cX9_init.data.toList.drop 23 = dktX9_init_1 := dk_seg dksX9_init_0 23 rfl rfl
theorem dX9_init_0 : decode cX9_init 0 = .ok (.aload_n 0, 1) := dk_42 (dk_at dksX9_init_0 0 rfl rfl)
theorem dX9_init_1 : decode cX9_init 1 = .ok (.invokespecial 3, 3) := dk_183 0 3 (dk_at dksX9_init_0 1 rfl rfl)
theorem dX9_init_4 : decode cX9_init 4 = .ok (.aload_n 0, 1) := dk_42 (dk_at dksX9_init_0 4 rfl rfl)
theorem dX9_init_5 : decode cX9_init 5 = .ok (.iconst 5, 1) := dk_8 (dk_at dksX9_init_0 5 rfl rfl)
theorem dX9_init_6 : decode cX9_init 6 = .ok (.anewarray 9, 3) := dk_189 0 9 (dk_at dksX9_init_0 6 rfl rfl)
theorem dX9_init_9 : decode cX9_init 9 = .ok (.putfield 11, 3) := dk_181 0 11 (dk_at dksX9_init_0 9 rfl rfl)
theorem dX9_init_12 : decode cX9_init 12 = .ok (.aload_n 0, 1) := dk_42 (dk_at dksX9_init_0 12 rfl rfl)
theorem dX9_init_13 : decode cX9_init 13 = .ok (.iconst 4, 1) := dk_7 (dk_at dksX9_init_0 13 rfl rfl)
theorem dX9_init_14 : decode cX9_init 14 = .ok (.anewarray 17, 3) := dk_189 0 17 (dk_at dksX9_init_0 14 rfl rfl)
theorem dX9_init_17 : decode cX9_init 17 = .ok (.putfield 19, 3) := dk_181 0 19 (dk_at dksX9_init_0 17 rfl rfl)
theorem dX9_init_20 : decode cX9_init 20 = .ok (.aload_n 0, 1) := dk_42 (dk_at dksX9_init_0 20 rfl rfl)
theorem dX9_init_21 : decode cX9_init 21 = .ok (.bipush 6, 2) := dk_16 6 (dk_at dksX9_init_0 21 rfl rfl)
theorem dX9_init_23 : decode cX9_init 23 = .ok (.newarray .int, 2) := dk_188_10 (dk_at dksX9_init_1 0 rfl rfl)
theorem dX9_init_25 : decode cX9_init 25 = .ok (.putfield 23, 3) := dk_181 0 23 (dk_at dksX9_init_1 2 rfl rfl)
theorem dX9_init_28 : decode cX9_init 28 = .ok (.aload_n 0, 1) := dk_42 (dk_at dksX9_init_1 5 rfl rfl)
theorem dX9_init_29 : decode cX9_init 29 = .ok (.iconst (-1), 1) := dk_2 (dk_at dksX9_init_1 6 rfl rfl)
theorem dX9_init_30 : decode cX9_init 30 = .ok (.putfield 27, 3) := dk_181 0 27 (dk_at dksX9_init_1 7 rfl rfl)
theorem dX9_init_33 : decode cX9_init 33 = .ok (.aload_n 0, 1) := dk_42 (dk_at dksX9_init_1 10 rfl rfl)
theorem dX9_init_34 : decode cX9_init 34 = .ok (.iconst (-1), 1) := dk_2 (dk_at dksX9_init_1 11 rfl rfl)
theorem dX9_init_35 : decode cX9_init 35 = .ok (.putfield 31, 3) := dk_181 0 31 (dk_at dksX9_init_1 12 rfl rfl)
theorem dX9_init_38 : decode cX9_init 38 = .ok (.return_, 1) := dk_177 (dk_at dksX9_init_1 15 rfl rfl)
abbrev cX9_sizeOf : ByteArray := prog_12_method_3_code
def yX9_sizeOf : MethodName := ⟨RX9, "sizeOf", "(Ljava/lang/String;)I"⟩
def dkwX9_sizeOf_1 : List UInt8 := [154, 0, 9, 132, 2, 1, 167, 255, 229, 28, 42, 180, 0, 34, 162, 0, 7, 28, 167, 0, 4, 2, 172]
abbrev dktX9_sizeOf_1 : List UInt8 := dkwX9_sizeOf_1 ++ []
def dkwX9_sizeOf_0 : List UInt8 := [3, 61, 28, 42, 180, 0, 34, 162, 0, 25, 42, 180, 0, 11, 28, 50, 180, 0, 37, 43, 182, 0, 41]
abbrev dktX9_sizeOf_0 : List UInt8 := dkwX9_sizeOf_0 ++ dktX9_sizeOf_1
theorem dksX9_sizeOf_0 : cX9_sizeOf.data.toList.drop 0 = dktX9_sizeOf_0 := by decide +kernel
theorem dksX9_sizeOf_1 : cX9_sizeOf.data.toList.drop 23 = dktX9_sizeOf_1 := dk_seg dksX9_sizeOf_0 23 rfl rfl
theorem dX9_sizeOf_0 : decode cX9_sizeOf 0 = .ok (.iconst 0, 1) := dk_3 (dk_at dksX9_sizeOf_0 0 rfl rfl)
theorem dX9_sizeOf_1 : decode cX9_sizeOf 1 = .ok (.istore_n 2, 1) := dk_61 (dk_at dksX9_sizeOf_0 1 rfl rfl)
theorem dX9_sizeOf_2 : decode cX9_sizeOf 2 = .ok (.iload_n 2, 1) := dk_28 (dk_at dksX9_sizeOf_0 2 rfl rfl)
theorem dX9_sizeOf_3 : decode cX9_sizeOf 3 = .ok (.aload_n 0, 1) := dk_42 (dk_at dksX9_sizeOf_0 3 rfl rfl)
theorem dX9_sizeOf_4 : decode cX9_sizeOf 4 = .ok (.getfield 34, 3) := dk_180 0 34 (dk_at dksX9_sizeOf_0 4 rfl rfl)
theorem dX9_sizeOf_7 : decode cX9_sizeOf 7 = .ok (.if_icmp .ge 25, 3) := dk_162 0 25 (dk_at dksX9_sizeOf_0 7 rfl rfl)
theorem dX9_sizeOf_10 : decode cX9_sizeOf 10 = .ok (.aload_n 0, 1) := dk_42 (dk_at dksX9_sizeOf_0 10 rfl rfl)
theorem dX9_sizeOf_11 : decode cX9_sizeOf 11 = .ok (.getfield 11, 3) := dk_180 0 11 (dk_at dksX9_sizeOf_0 11 rfl rfl)
theorem dX9_sizeOf_14 : decode cX9_sizeOf 14 = .ok (.iload_n 2, 1) := dk_28 (dk_at dksX9_sizeOf_0 14 rfl rfl)
theorem dX9_sizeOf_15 : decode cX9_sizeOf 15 = .ok (.aaload, 1) := dk_50 (dk_at dksX9_sizeOf_0 15 rfl rfl)
theorem dX9_sizeOf_16 : decode cX9_sizeOf 16 = .ok (.getfield 37, 3) := dk_180 0 37 (dk_at dksX9_sizeOf_0 16 rfl rfl)
theorem dX9_sizeOf_19 : decode cX9_sizeOf 19 = .ok (.aload_n 1, 1) := dk_43 (dk_at dksX9_sizeOf_0 19 rfl rfl)
theorem dX9_sizeOf_20 : decode cX9_sizeOf 20 = .ok (.invokevirtual 41, 3) := dk_182 0 41 (dk_at dksX9_sizeOf_0 20 rfl rfl)
theorem dX9_sizeOf_23 : decode cX9_sizeOf 23 = .ok (.ifCond .ne 9, 3) := dk_154 0 9 (dk_at dksX9_sizeOf_1 0 rfl rfl)
theorem dX9_sizeOf_26 : decode cX9_sizeOf 26 = .ok (.iinc 2 1, 3) := dk_132 2 1 (dk_at dksX9_sizeOf_1 3 rfl rfl)
theorem dX9_sizeOf_29 : decode cX9_sizeOf 29 = .ok (.goto (-27), 3) := dk_167 255 229 (dk_at dksX9_sizeOf_1 6 rfl rfl)
theorem dX9_sizeOf_32 : decode cX9_sizeOf 32 = .ok (.iload_n 2, 1) := dk_28 (dk_at dksX9_sizeOf_1 9 rfl rfl)
theorem dX9_sizeOf_33 : decode cX9_sizeOf 33 = .ok (.aload_n 0, 1) := dk_42 (dk_at dksX9_sizeOf_1 10 rfl rfl)
theorem dX9_sizeOf_34 : decode cX9_sizeOf 34 = .ok (.getfield 34, 3) := dk_180 0 34 (dk_at dksX9_sizeOf_1 11 rfl rfl)
theorem dX9_sizeOf_37 : decode cX9_sizeOf 37 = .ok (.if_icmp .ge 7, 3) := dk_162 0 7 (dk_at dksX9_sizeOf_1 14 rfl rfl)
theorem dX9_sizeOf_40 : decode cX9_sizeOf 40 = .ok (.iload_n 2, 1) := dk_28 (dk_at dksX9_sizeOf_1 17 rfl rfl)
theorem dX9_sizeOf_41 : decode cX9_sizeOf 41 = .ok (.goto 4, 3) := dk_167 0 4 (dk_at dksX9_sizeOf_1 18 rfl rfl)
theorem dX9_sizeOf_44 : decode cX9_sizeOf 44 = .ok (.iconst (-1), 1) := dk_2 (dk_at dksX9_sizeOf_1 21 rfl rfl)
theorem dX9_sizeOf_45 : decode cX9_sizeOf 45 = .ok (.ireturn, 1) := dk_172 (dk_at dksX9_sizeOf_1 22 rfl rfl)
abbrev cX9_find : ByteArray := prog_12_method_2_code
def yX9_find : MethodName := ⟨RX9, "find", "(Ljava/lang/String;)LRoarMill$Named;"⟩
def dkwX9_find_3 : List UInt8 := [50, 176, 132, 2, 1, 167, 255, 222, 1, 176]
abbrev dktX9_find_3 : List UInt8 := dkwX9_find_3 ++ []
def dkwX9_find_2 : List UInt8 := [162, 0, 32, 42, 180, 0, 19, 28, 50, 180, 0, 50, 43, 182, 0, 41, 153, 0, 10, 42, 180, 0, 19, 28]
abbrev dktX9_find_2 : List UInt8 := dkwX9_find_2 ++ dktX9_find_3
def dkwX9_find_1 : List UInt8 := [153, 0, 10, 42, 180, 0, 11, 28, 50, 176, 132, 2, 1, 167, 255, 222, 3, 61, 28, 42, 180, 0, 47]
abbrev dktX9_find_1 : List UInt8 := dkwX9_find_1 ++ dktX9_find_2
def dkwX9_find_0 : List UInt8 := [3, 61, 28, 42, 180, 0, 34, 162, 0, 32, 42, 180, 0, 11, 28, 50, 180, 0, 37, 43, 182, 0, 41]
abbrev dktX9_find_0 : List UInt8 := dkwX9_find_0 ++ dktX9_find_1
theorem dksX9_find_0 : cX9_find.data.toList.drop 0 = dktX9_find_0 := by decide +kernel
theorem dksX9_find_1 : cX9_find.data.toList.drop 23 = dktX9_find_1 := dk_seg dksX9_find_0 23 rfl rfl
theorem dksX9_find_2 : cX9_find.data.toList.drop 46 = dktX9_find_2 := dk_seg dksX9_find_1 23 rfl rfl
theorem dksX9_find_3 : cX9_find.data.toList.drop 70 = dktX9_find_3 := dk_seg dksX9_find_2 24 rfl rfl
theorem dX9_find_0 : decode cX9_find 0 = .ok (.iconst 0, 1) := dk_3 (dk_at dksX9_find_0 0 rfl rfl)
theorem dX9_find_1 : decode cX9_find 1 = .ok (.istore_n 2, 1) := dk_61 (dk_at dksX9_find_0 1 rfl rfl)
theorem dX9_find_2 : decode cX9_find 2 = .ok (.iload_n 2, 1) := dk_28 (dk_at dksX9_find_0 2 rfl rfl)
theorem dX9_find_3 : decode cX9_find 3 = .ok (.aload_n 0, 1) := dk_42 (dk_at dksX9_find_0 3 rfl rfl)
theorem dX9_find_4 : decode cX9_find 4 = .ok (.getfield 34, 3) := dk_180 0 34 (dk_at dksX9_find_0 4 rfl rfl)
theorem dX9_find_7 : decode cX9_find 7 = .ok (.if_icmp .ge 32, 3) := dk_162 0 32 (dk_at dksX9_find_0 7 rfl rfl)
theorem dX9_find_10 : decode cX9_find 10 = .ok (.aload_n 0, 1) := dk_42 (dk_at dksX9_find_0 10 rfl rfl)
theorem dX9_find_11 : decode cX9_find 11 = .ok (.getfield 11, 3) := dk_180 0 11 (dk_at dksX9_find_0 11 rfl rfl)
theorem dX9_find_14 : decode cX9_find 14 = .ok (.iload_n 2, 1) := dk_28 (dk_at dksX9_find_0 14 rfl rfl)
theorem dX9_find_15 : decode cX9_find 15 = .ok (.aaload, 1) := dk_50 (dk_at dksX9_find_0 15 rfl rfl)
theorem dX9_find_16 : decode cX9_find 16 = .ok (.getfield 37, 3) := dk_180 0 37 (dk_at dksX9_find_0 16 rfl rfl)
theorem dX9_find_19 : decode cX9_find 19 = .ok (.aload_n 1, 1) := dk_43 (dk_at dksX9_find_0 19 rfl rfl)
theorem dX9_find_20 : decode cX9_find 20 = .ok (.invokevirtual 41, 3) := dk_182 0 41 (dk_at dksX9_find_0 20 rfl rfl)
theorem dX9_find_23 : decode cX9_find 23 = .ok (.ifCond .eq 10, 3) := dk_153 0 10 (dk_at dksX9_find_1 0 rfl rfl)
theorem dX9_find_26 : decode cX9_find 26 = .ok (.aload_n 0, 1) := dk_42 (dk_at dksX9_find_1 3 rfl rfl)
theorem dX9_find_27 : decode cX9_find 27 = .ok (.getfield 11, 3) := dk_180 0 11 (dk_at dksX9_find_1 4 rfl rfl)
theorem dX9_find_30 : decode cX9_find 30 = .ok (.iload_n 2, 1) := dk_28 (dk_at dksX9_find_1 7 rfl rfl)
theorem dX9_find_31 : decode cX9_find 31 = .ok (.aaload, 1) := dk_50 (dk_at dksX9_find_1 8 rfl rfl)
theorem dX9_find_32 : decode cX9_find 32 = .ok (.areturn, 1) := dk_176 (dk_at dksX9_find_1 9 rfl rfl)
theorem dX9_find_33 : decode cX9_find 33 = .ok (.iinc 2 1, 3) := dk_132 2 1 (dk_at dksX9_find_1 10 rfl rfl)
theorem dX9_find_36 : decode cX9_find 36 = .ok (.goto (-34), 3) := dk_167 255 222 (dk_at dksX9_find_1 13 rfl rfl)
theorem dX9_find_39 : decode cX9_find 39 = .ok (.iconst 0, 1) := dk_3 (dk_at dksX9_find_1 16 rfl rfl)
theorem dX9_find_40 : decode cX9_find 40 = .ok (.istore_n 2, 1) := dk_61 (dk_at dksX9_find_1 17 rfl rfl)
theorem dX9_find_41 : decode cX9_find 41 = .ok (.iload_n 2, 1) := dk_28 (dk_at dksX9_find_1 18 rfl rfl)
theorem dX9_find_42 : decode cX9_find 42 = .ok (.aload_n 0, 1) := dk_42 (dk_at dksX9_find_1 19 rfl rfl)
theorem dX9_find_43 : decode cX9_find 43 = .ok (.getfield 47, 3) := dk_180 0 47 (dk_at dksX9_find_1 20 rfl rfl)
theorem dX9_find_46 : decode cX9_find 46 = .ok (.if_icmp .ge 32, 3) := dk_162 0 32 (dk_at dksX9_find_2 0 rfl rfl)
theorem dX9_find_49 : decode cX9_find 49 = .ok (.aload_n 0, 1) := dk_42 (dk_at dksX9_find_2 3 rfl rfl)
theorem dX9_find_50 : decode cX9_find 50 = .ok (.getfield 19, 3) := dk_180 0 19 (dk_at dksX9_find_2 4 rfl rfl)
theorem dX9_find_53 : decode cX9_find 53 = .ok (.iload_n 2, 1) := dk_28 (dk_at dksX9_find_2 7 rfl rfl)
theorem dX9_find_54 : decode cX9_find 54 = .ok (.aaload, 1) := dk_50 (dk_at dksX9_find_2 8 rfl rfl)
theorem dX9_find_55 : decode cX9_find 55 = .ok (.getfield 50, 3) := dk_180 0 50 (dk_at dksX9_find_2 9 rfl rfl)
theorem dX9_find_58 : decode cX9_find 58 = .ok (.aload_n 1, 1) := dk_43 (dk_at dksX9_find_2 12 rfl rfl)
theorem dX9_find_59 : decode cX9_find 59 = .ok (.invokevirtual 41, 3) := dk_182 0 41 (dk_at dksX9_find_2 13 rfl rfl)
theorem dX9_find_62 : decode cX9_find 62 = .ok (.ifCond .eq 10, 3) := dk_153 0 10 (dk_at dksX9_find_2 16 rfl rfl)
theorem dX9_find_65 : decode cX9_find 65 = .ok (.aload_n 0, 1) := dk_42 (dk_at dksX9_find_2 19 rfl rfl)
theorem dX9_find_66 : decode cX9_find 66 = .ok (.getfield 19, 3) := dk_180 0 19 (dk_at dksX9_find_2 20 rfl rfl)
theorem dX9_find_69 : decode cX9_find 69 = .ok (.iload_n 2, 1) := dk_28 (dk_at dksX9_find_2 23 rfl rfl)
theorem dX9_find_70 : decode cX9_find 70 = .ok (.aaload, 1) := dk_50 (dk_at dksX9_find_3 0 rfl rfl)
theorem dX9_find_71 : decode cX9_find 71 = .ok (.areturn, 1) := dk_176 (dk_at dksX9_find_3 1 rfl rfl)
theorem dX9_find_72 : decode cX9_find 72 = .ok (.iinc 2 1, 3) := dk_132 2 1 (dk_at dksX9_find_3 2 rfl rfl)
theorem dX9_find_75 : decode cX9_find 75 = .ok (.goto (-34), 3) := dk_167 255 222 (dk_at dksX9_find_3 5 rfl rfl)
theorem dX9_find_78 : decode cX9_find 78 = .ok (.aconst_null, 1) := dk_1 (dk_at dksX9_find_3 8 rfl rfl)
theorem dX9_find_79 : decode cX9_find 79 = .ok (.areturn, 1) := dk_176 (dk_at dksX9_find_3 9 rfl rfl)
abbrev cX9_lacks : ByteArray := prog_12_method_4_code
def yX9_lacks : MethodName := ⟨RX9, "lacks", "()Z"⟩
def dkwX9_lacks_2 : List UInt8 := [180, 0, 47, 154, 0, 7, 4, 167, 0, 4, 3, 172]
abbrev dktX9_lacks_2 : List UInt8 := dkwX9_lacks_2 ++ []
def dkwX9_lacks_1 : List UInt8 := [180, 0, 57, 153, 0, 25, 42, 180, 0, 60, 153, 0, 18, 42, 180, 0, 34, 5, 161, 0, 10, 42]
abbrev dktX9_lacks_1 : List UInt8 := dkwX9_lacks_1 ++ dktX9_lacks_2
def dkwX9_lacks_0 : List UInt8 := [42, 180, 0, 51, 153, 0, 47, 42, 180, 0, 27, 2, 159, 0, 39, 42, 180, 0, 54, 153, 0, 32, 42]
abbrev dktX9_lacks_0 : List UInt8 := dkwX9_lacks_0 ++ dktX9_lacks_1
theorem dksX9_lacks_0 : cX9_lacks.data.toList.drop 0 = dktX9_lacks_0 := by decide +kernel
theorem dksX9_lacks_1 : cX9_lacks.data.toList.drop 23 = dktX9_lacks_1 := dk_seg dksX9_lacks_0 23 rfl rfl
theorem dksX9_lacks_2 : cX9_lacks.data.toList.drop 45 = dktX9_lacks_2 := dk_seg dksX9_lacks_1 22 rfl rfl
theorem dX9_lacks_0 : decode cX9_lacks 0 = .ok (.aload_n 0, 1) := dk_42 (dk_at dksX9_lacks_0 0 rfl rfl)
theorem dX9_lacks_1 : decode cX9_lacks 1 = .ok (.getfield 51, 3) := dk_180 0 51 (dk_at dksX9_lacks_0 1 rfl rfl)
theorem dX9_lacks_4 : decode cX9_lacks 4 = .ok (.ifCond .eq 47, 3) := dk_153 0 47 (dk_at dksX9_lacks_0 4 rfl rfl)
theorem dX9_lacks_7 : decode cX9_lacks 7 = .ok (.aload_n 0, 1) := dk_42 (dk_at dksX9_lacks_0 7 rfl rfl)
theorem dX9_lacks_8 : decode cX9_lacks 8 = .ok (.getfield 27, 3) := dk_180 0 27 (dk_at dksX9_lacks_0 8 rfl rfl)
theorem dX9_lacks_11 : decode cX9_lacks 11 = .ok (.iconst (-1), 1) := dk_2 (dk_at dksX9_lacks_0 11 rfl rfl)
theorem dX9_lacks_12 : decode cX9_lacks 12 = .ok (.if_icmp .eq 39, 3) := dk_159 0 39 (dk_at dksX9_lacks_0 12 rfl rfl)
theorem dX9_lacks_15 : decode cX9_lacks 15 = .ok (.aload_n 0, 1) := dk_42 (dk_at dksX9_lacks_0 15 rfl rfl)
theorem dX9_lacks_16 : decode cX9_lacks 16 = .ok (.getfield 54, 3) := dk_180 0 54 (dk_at dksX9_lacks_0 16 rfl rfl)
theorem dX9_lacks_19 : decode cX9_lacks 19 = .ok (.ifCond .eq 32, 3) := dk_153 0 32 (dk_at dksX9_lacks_0 19 rfl rfl)
theorem dX9_lacks_22 : decode cX9_lacks 22 = .ok (.aload_n 0, 1) := dk_42 (dk_at dksX9_lacks_0 22 rfl rfl)
theorem dX9_lacks_23 : decode cX9_lacks 23 = .ok (.getfield 57, 3) := dk_180 0 57 (dk_at dksX9_lacks_1 0 rfl rfl)
theorem dX9_lacks_26 : decode cX9_lacks 26 = .ok (.ifCond .eq 25, 3) := dk_153 0 25 (dk_at dksX9_lacks_1 3 rfl rfl)
theorem dX9_lacks_29 : decode cX9_lacks 29 = .ok (.aload_n 0, 1) := dk_42 (dk_at dksX9_lacks_1 6 rfl rfl)
theorem dX9_lacks_30 : decode cX9_lacks 30 = .ok (.getfield 60, 3) := dk_180 0 60 (dk_at dksX9_lacks_1 7 rfl rfl)
theorem dX9_lacks_33 : decode cX9_lacks 33 = .ok (.ifCond .eq 18, 3) := dk_153 0 18 (dk_at dksX9_lacks_1 10 rfl rfl)
theorem dX9_lacks_36 : decode cX9_lacks 36 = .ok (.aload_n 0, 1) := dk_42 (dk_at dksX9_lacks_1 13 rfl rfl)
theorem dX9_lacks_37 : decode cX9_lacks 37 = .ok (.getfield 34, 3) := dk_180 0 34 (dk_at dksX9_lacks_1 14 rfl rfl)
theorem dX9_lacks_40 : decode cX9_lacks 40 = .ok (.iconst 2, 1) := dk_5 (dk_at dksX9_lacks_1 17 rfl rfl)
theorem dX9_lacks_41 : decode cX9_lacks 41 = .ok (.if_icmp .lt 10, 3) := dk_161 0 10 (dk_at dksX9_lacks_1 18 rfl rfl)
theorem dX9_lacks_44 : decode cX9_lacks 44 = .ok (.aload_n 0, 1) := dk_42 (dk_at dksX9_lacks_1 21 rfl rfl)
theorem dX9_lacks_45 : decode cX9_lacks 45 = .ok (.getfield 47, 3) := dk_180 0 47 (dk_at dksX9_lacks_2 0 rfl rfl)
theorem dX9_lacks_48 : decode cX9_lacks 48 = .ok (.ifCond .ne 7, 3) := dk_154 0 7 (dk_at dksX9_lacks_2 3 rfl rfl)
theorem dX9_lacks_51 : decode cX9_lacks 51 = .ok (.iconst 1, 1) := dk_4 (dk_at dksX9_lacks_2 6 rfl rfl)
theorem dX9_lacks_52 : decode cX9_lacks 52 = .ok (.goto 4, 3) := dk_167 0 4 (dk_at dksX9_lacks_2 7 rfl rfl)
theorem dX9_lacks_55 : decode cX9_lacks 55 = .ok (.iconst 0, 1) := dk_3 (dk_at dksX9_lacks_2 10 rfl rfl)
theorem dX9_lacks_56 : decode cX9_lacks 56 = .ok (.ireturn, 1) := dk_172 (dk_at dksX9_lacks_2 11 rfl rfl)
theorem q94 : (Jvm.Cond.initialized "RoarMill$Works") ∈ lw_all := lw_g (lw_at lw_m1 12 rfl) rfl
theorem q481 : (Jvm.Cond.instantiable "RoarMill$Works" (13 : Nat)) ∈ lw_all := lw_g (lw_at lw_m2 159 rfl) rfl
theorem q483 : (Jvm.Cond.instanceMethod ({ cls := "RoarMill$Works", name := "<init>", desc := "()V" } : Jvm.MethodName)) ∈ lw_all := lw_g (lw_at lw_m2 161 rfl) rfl
theorem q484 : (Jvm.Cond.code ({ cls := "RoarMill$Works", name := "<init>", desc := "()V" } : Jvm.MethodName) prog_12_method_1_code (1 : Nat) (Option.none : Option Jvm.ClassFile.FieldType)) ∈ lw_all := lw_g (lw_at lw_m2 162 rfl) rfl
theorem q485 : (Jvm.Cond.methodLink "RoarMill$Works" (3 : Nat) ({ cls := "java/lang/Object", name := "<init>", desc := "()V" } : Jvm.MethodName)) ∈ lw_all := lw_g (lw_at lw_m2 163 rfl) rfl
theorem q486 : (Jvm.Cond.classLink "RoarMill$Works" (9 : Nat) "RoarMill$Size") ∈ lw_all := lw_g (lw_at lw_m2 164 rfl) rfl
theorem q488 : (Jvm.Cond.classLink "RoarMill$Works" (17 : Nat) "RoarMill$Ore") ∈ lw_all := lw_g (lw_at lw_m2 166 rfl) rfl
theorem q490 : (Jvm.Cond.fieldLink "RoarMill$Works" (11 : Nat) "RoarMill$Works" "sizes" "[LRoarMill$Size;") ∈ lw_all := lw_g (lw_at lw_m2 168 rfl) rfl
theorem q494 : (Jvm.Cond.fieldLink "RoarMill$Works" (19 : Nat) "RoarMill$Works" "ores" "[LRoarMill$Ore;") ∈ lw_all := lw_g (lw_at lw_m2 172 rfl) rfl
theorem q497 : (Jvm.Cond.fieldLink "RoarMill$Works" (23 : Nat) "RoarMill$Works" "prices" "[I") ∈ lw_all := lw_g (lw_at lw_m2 175 rfl) rfl
theorem q500 : (Jvm.Cond.fieldLink "RoarMill$Works" (34 : Nat) "RoarMill$Works" "sizeMany" "I") ∈ lw_all := lw_g (lw_at lw_m2 178 rfl) rfl
theorem q505 : (Jvm.Cond.fieldLink "RoarMill$Works" (47 : Nat) "RoarMill$Works" "oreMany" "I") ∈ lw_all := lw_g (lw_at lw_m2 183 rfl) rfl
theorem q508 : (Jvm.Cond.fieldLink "RoarMill$Works" (60 : Nat) "RoarMill$Works" "priceMany" "I") ∈ lw_all := lw_g (lw_at lw_m2 186 rfl) rfl
theorem q512 : (Jvm.Cond.fieldLink "RoarMill$Works" (51 : Nat) "RoarMill$Works" "room" "I") ∈ lw_all := lw_g (lw_at lw_m2 190 rfl) rfl
theorem q519 : (Jvm.Cond.fieldLink "RoarMill$Works" (27 : Nat) "RoarMill$Works" "sieve" "I") ∈ lw_all := lw_g (lw_at lw_m2 197 rfl) rfl
theorem q528 : (Jvm.Cond.fieldLink "RoarMill$Works" (54 : Nat) "RoarMill$Works" "life" "I") ∈ lw_all := lw_g (lw_at lw_m2 206 rfl) rfl
theorem q532 : (Jvm.Cond.fieldLink "RoarMill$Works" (57 : Nat) "RoarMill$Works" "bin" "I") ∈ lw_all := lw_g (lw_at lw_m2 210 rfl) rfl
theorem q536 : (Jvm.Cond.fieldLink "RoarMill$Works" (31 : Nat) "RoarMill$Works" "draws" "I") ∈ lw_all := lw_g (lw_at lw_m2 214 rfl) rfl
theorem q540 : (Jvm.Cond.laysFinal "RoarMill$Works" "RoarMill$Works" "sizes" "[LRoarMill$Size;") ∈ lw_all := lw_g (lw_at lw_m2 218 rfl) rfl
theorem q541 : (Jvm.Cond.soleField "RoarMill$Works" "sizes") ∈ lw_all := lw_g (lw_at lw_m2 219 rfl) rfl
theorem q542 : (Jvm.Cond.laysFinal "RoarMill$Works" "RoarMill$Works" "ores" "[LRoarMill$Ore;") ∈ lw_all := lw_g (lw_at lw_m2 220 rfl) rfl
theorem q543 : (Jvm.Cond.soleField "RoarMill$Works" "ores") ∈ lw_all := lw_g (lw_at lw_m2 221 rfl) rfl
theorem q544 : (Jvm.Cond.laysFinal "RoarMill$Works" "RoarMill$Works" "prices" "[I") ∈ lw_all := lw_g (lw_at lw_m2 222 rfl) rfl
theorem q545 : (Jvm.Cond.soleField "RoarMill$Works" "prices") ∈ lw_all := lw_g (lw_at lw_m2 223 rfl) rfl
theorem q546 : (Jvm.Cond.lays "RoarMill$Works" "RoarMill$Works" "sizeMany" "I") ∈ lw_all := lw_g (lw_at lw_m2 224 rfl) rfl
theorem q547 : (Jvm.Cond.soleField "RoarMill$Works" "sizeMany") ∈ lw_all := lw_g (lw_at lw_m2 225 rfl) rfl
theorem q548 : (Jvm.Cond.lays "RoarMill$Works" "RoarMill$Works" "oreMany" "I") ∈ lw_all := lw_g (lw_at lw_m2 226 rfl) rfl
theorem q549 : (Jvm.Cond.soleField "RoarMill$Works" "oreMany") ∈ lw_all := lw_g (lw_at lw_m2 227 rfl) rfl
theorem q550 : (Jvm.Cond.lays "RoarMill$Works" "RoarMill$Works" "priceMany" "I") ∈ lw_all := lw_g (lw_at lw_m2 228 rfl) rfl
theorem q551 : (Jvm.Cond.soleField "RoarMill$Works" "priceMany") ∈ lw_all := lw_g (lw_at lw_m2 229 rfl) rfl
theorem q552 : (Jvm.Cond.lays "RoarMill$Works" "RoarMill$Works" "room" "I") ∈ lw_all := lw_g (lw_at lw_m2 230 rfl) rfl
theorem q553 : (Jvm.Cond.soleField "RoarMill$Works" "room") ∈ lw_all := lw_g (lw_at lw_m2 231 rfl) rfl
theorem q554 : (Jvm.Cond.lays "RoarMill$Works" "RoarMill$Works" "loud" "I") ∈ lw_all := lw_g (lw_at lw_m2 232 rfl) rfl
theorem q555 : (Jvm.Cond.soleField "RoarMill$Works" "loud") ∈ lw_all := lw_g (lw_at lw_m2 233 rfl) rfl
theorem q556 : (Jvm.Cond.lays "RoarMill$Works" "RoarMill$Works" "sieve" "I") ∈ lw_all := lw_g (lw_at lw_m2 234 rfl) rfl
theorem q557 : (Jvm.Cond.soleField "RoarMill$Works" "sieve") ∈ lw_all := lw_g (lw_at lw_m2 235 rfl) rfl
theorem q558 : (Jvm.Cond.lays "RoarMill$Works" "RoarMill$Works" "slips" "I") ∈ lw_all := lw_g (lw_at lw_m2 236 rfl) rfl
theorem q559 : (Jvm.Cond.soleField "RoarMill$Works" "slips") ∈ lw_all := lw_g (lw_at lw_m2 237 rfl) rfl
theorem q560 : (Jvm.Cond.lays "RoarMill$Works" "RoarMill$Works" "life" "I") ∈ lw_all := lw_g (lw_at lw_m2 238 rfl) rfl
theorem q561 : (Jvm.Cond.soleField "RoarMill$Works" "life") ∈ lw_all := lw_g (lw_at lw_m2 239 rfl) rfl
theorem q562 : (Jvm.Cond.lays "RoarMill$Works" "RoarMill$Works" "bin" "I") ∈ lw_all := lw_g (lw_at lw_m3 0 rfl) rfl
theorem q563 : (Jvm.Cond.soleField "RoarMill$Works" "bin") ∈ lw_all := lw_g (lw_at lw_m3 1 rfl) rfl
theorem q564 : (Jvm.Cond.lays "RoarMill$Works" "RoarMill$Works" "draws" "I") ∈ lw_all := lw_g (lw_at lw_m3 2 rfl) rfl
theorem q565 : (Jvm.Cond.soleField "RoarMill$Works" "draws") ∈ lw_all := lw_g (lw_at lw_m3 3 rfl) rfl
theorem q566 : (Jvm.Cond.superclass "RoarMill$Works" "java/lang/Object") ∈ lw_all := lw_g (lw_at lw_m3 4 rfl) rfl
theorem q772 : (Jvm.Cond.instanceMethod ({ cls := "RoarMill$Works", name := "sizeOf", desc := "(Ljava/lang/String;)I" } : Jvm.MethodName)) ∈ lw_all := lw_g (lw_at lw_m3 210 rfl) rfl
theorem q773 : (Jvm.Cond.selects "RoarMill$Works" ({ cls := "RoarMill$Works", name := "sizeOf", desc := "(Ljava/lang/String;)I" } : Jvm.MethodName) ({ cls := "RoarMill$Works", name := "sizeOf", desc := "(Ljava/lang/String;)I" } : Jvm.MethodName)) ∈ lw_all := lw_g (lw_at lw_m3 211 rfl) rfl
theorem q774 : (Jvm.Cond.code ({ cls := "RoarMill$Works", name := "sizeOf", desc := "(Ljava/lang/String;)I" } : Jvm.MethodName) prog_12_method_3_code (3 : Nat) (Option.some Jvm.ClassFile.FieldType.int)) ∈ lw_all := lw_g (lw_at lw_m3 212 rfl) rfl
theorem q775 : (Jvm.Cond.methodLink "RoarMill$Works" (41 : Nat) ({ cls := "java/lang/String", name := "equals", desc := "(Ljava/lang/Object;)Z" } : Jvm.MethodName)) ∈ lw_all := lw_g (lw_at lw_m3 213 rfl) rfl
theorem q795 : (Jvm.Cond.instanceMethod ({ cls := "RoarMill$Works", name := "find", desc := "(Ljava/lang/String;)LRoarMill$Named;" } : Jvm.MethodName)) ∈ lw_all := lw_g (lw_at lw_m3 233 rfl) rfl
theorem q796 : (Jvm.Cond.selects "RoarMill$Works" ({ cls := "RoarMill$Works", name := "find", desc := "(Ljava/lang/String;)LRoarMill$Named;" } : Jvm.MethodName) ({ cls := "RoarMill$Works", name := "find", desc := "(Ljava/lang/String;)LRoarMill$Named;" } : Jvm.MethodName)) ∈ lw_all := lw_g (lw_at lw_m3 234 rfl) rfl
theorem q797 : (Jvm.Cond.code ({ cls := "RoarMill$Works", name := "find", desc := "(Ljava/lang/String;)LRoarMill$Named;" } : Jvm.MethodName) prog_12_method_2_code (3 : Nat) (Option.some (Jvm.ClassFile.FieldType.object "RoarMill$Named"))) ∈ lw_all := lw_g (lw_at lw_m3 235 rfl) rfl
theorem q816 : (Jvm.Cond.fieldLink "RoarMill$Works" (37 : Nat) "RoarMill$Size" "name" "Ljava/lang/String;") ∈ lw_all := lw_g (lw_at lw_m4 14 rfl) rfl
theorem q818 : (Jvm.Cond.fieldLink "RoarMill$Works" (50 : Nat) "RoarMill$Ore" "name" "Ljava/lang/String;") ∈ lw_all := lw_g (lw_at lw_m4 16 rfl) rfl
theorem q851 : (Jvm.Cond.instanceMethod ({ cls := "RoarMill$Works", name := "lacks", desc := "()Z" } : Jvm.MethodName)) ∈ lw_all := lw_g (lw_at lw_m4 49 rfl) rfl
theorem q852 : (Jvm.Cond.selects "RoarMill$Works" ({ cls := "RoarMill$Works", name := "lacks", desc := "()Z" } : Jvm.MethodName) ({ cls := "RoarMill$Works", name := "lacks", desc := "()Z" } : Jvm.MethodName)) ∈ lw_all := lw_g (lw_at lw_m4 50 rfl) rfl
theorem q853 : (Jvm.Cond.code ({ cls := "RoarMill$Works", name := "lacks", desc := "()Z" } : Jvm.MethodName) prog_12_method_4_code (1 : Nat) (Option.some Jvm.ClassFile.FieldType.boolean)) ∈ lw_all := lw_g (lw_at lw_m4 51 rfl) rfl
theorem q1703 : (Jvm.Cond.castable "RoarMill$Works" "java/lang/Object") ∈ lw_tbl := lw_at lw_m7 181 rfl
theorem in_X9 : ∀ w ∈ wsX90, w ∈ lw_all := lw_in wsX90 [540, 542, 544, 546, 548, 550, 552, 554, 556, 558, 560, 562, 564] (by decide +kernel) (by decide +kernel)

/-! RoarMill$Named -/
set_option maxRecDepth 100000
def RX10 : String := "RoarMill$Named"
abbrev cX10_init : ByteArray := prog_4_method_1_code
def yX10_init : MethodName := ⟨RX10, "<init>", "(Ljava/lang/String;)V"⟩
def dkwX10_init_0 : List UInt8 := [42, 183, 0, 1, 42, 43, 181, 0, 7, 177]
abbrev dktX10_init_0 : List UInt8 := dkwX10_init_0 ++ []
theorem dksX10_init_0 : cX10_init.data.toList.drop 0 = dktX10_init_0 := by decide +kernel
theorem dX10_init_0 : decode cX10_init 0 = .ok (.aload_n 0, 1) := dk_42 (dk_at dksX10_init_0 0 rfl rfl)
theorem dX10_init_1 : decode cX10_init 1 = .ok (.invokespecial 1, 3) := dk_183 0 1 (dk_at dksX10_init_0 1 rfl rfl)
theorem dX10_init_4 : decode cX10_init 4 = .ok (.aload_n 0, 1) := dk_42 (dk_at dksX10_init_0 4 rfl rfl)
theorem dX10_init_5 : decode cX10_init 5 = .ok (.aload_n 1, 1) := dk_43 (dk_at dksX10_init_0 5 rfl rfl)
theorem dX10_init_6 : decode cX10_init 6 = .ok (.putfield 7, 3) := dk_181 0 7 (dk_at dksX10_init_0 6 rfl rfl)
theorem dX10_init_9 : decode cX10_init 9 = .ok (.return_, 1) := dk_177 (dk_at dksX10_init_0 9 rfl rfl)
theorem q100 : (Jvm.Cond.initialized "RoarMill$Named") ∈ lw_all := lw_g (lw_at lw_m1 18 rfl) rfl
theorem q806 : (Jvm.Cond.instanceMethod ({ cls := "RoarMill$Named", name := "<init>", desc := "(Ljava/lang/String;)V" } : Jvm.MethodName)) ∈ lw_all := lw_g (lw_at lw_m4 4 rfl) rfl
theorem q807 : (Jvm.Cond.code ({ cls := "RoarMill$Named", name := "<init>", desc := "(Ljava/lang/String;)V" } : Jvm.MethodName) prog_4_method_1_code (2 : Nat) (Option.none : Option Jvm.ClassFile.FieldType)) ∈ lw_all := lw_g (lw_at lw_m4 5 rfl) rfl
theorem q808 : (Jvm.Cond.methodLink "RoarMill$Named" (1 : Nat) ({ cls := "java/lang/Object", name := "<init>", desc := "()V" } : Jvm.MethodName)) ∈ lw_all := lw_g (lw_at lw_m4 6 rfl) rfl
theorem q815 : (Jvm.Cond.fieldLink "RoarMill$Named" (7 : Nat) "RoarMill$Named" "name" "Ljava/lang/String;") ∈ lw_all := lw_g (lw_at lw_m4 13 rfl) rfl
theorem q825 : (Jvm.Cond.soleField "RoarMill$Named" "name") ∈ lw_all := lw_g (lw_at lw_m4 23 rfl) rfl

/-! RoarMill$Size -/
set_option maxRecDepth 100000
def RX11 : String := "RoarMill$Size"
def TX11 : u_T := fun k => match k with
  | 0 => ("RoarMill$Named", "name", "Ljava/lang/String;", true)
  | 1 => ("RoarMill$Size", "breaks", "I", true)
  | _ => ("RoarMill$Size", "next", "I", true)
def tyX11 : Nat → FieldType := fun k => match k with
  | 0 => .object "java/lang/String"
  | 1 => .int
  | _ => .int
abbrev wsX110 : List Cond := u_ws RX11 TX11 3
theorem nmX11 : ∀ a, a < 3 → ∀ b, b < 3 → a ≠ b → (TX11 a).2.1 ≠ (TX11 b).2.1 := by decide +kernel
theorem tyX11_ok : ∀ k, k < 3 → parseFieldDescriptor (TX11 k).2.2.1 = some (tyX11 k) := by decide +kernel
abbrev cX11_init : ByteArray := prog_10_method_1_code
def yX11_init : MethodName := ⟨RX11, "<init>", "(Ljava/lang/String;II)V"⟩
def dkwX11_init_0 : List UInt8 := [42, 43, 183, 0, 1, 42, 28, 181, 0, 7, 42, 29, 181, 0, 13, 177]
abbrev dktX11_init_0 : List UInt8 := dkwX11_init_0 ++ []
theorem dksX11_init_0 : cX11_init.data.toList.drop 0 = dktX11_init_0 := by decide +kernel
theorem dX11_init_0 : decode cX11_init 0 = .ok (.aload_n 0, 1) := dk_42 (dk_at dksX11_init_0 0 rfl rfl)
theorem dX11_init_1 : decode cX11_init 1 = .ok (.aload_n 1, 1) := dk_43 (dk_at dksX11_init_0 1 rfl rfl)
theorem dX11_init_2 : decode cX11_init 2 = .ok (.invokespecial 1, 3) := dk_183 0 1 (dk_at dksX11_init_0 2 rfl rfl)
theorem dX11_init_5 : decode cX11_init 5 = .ok (.aload_n 0, 1) := dk_42 (dk_at dksX11_init_0 5 rfl rfl)
theorem dX11_init_6 : decode cX11_init 6 = .ok (.iload_n 2, 1) := dk_28 (dk_at dksX11_init_0 6 rfl rfl)
theorem dX11_init_7 : decode cX11_init 7 = .ok (.putfield 7, 3) := dk_181 0 7 (dk_at dksX11_init_0 7 rfl rfl)
theorem dX11_init_10 : decode cX11_init 10 = .ok (.aload_n 0, 1) := dk_42 (dk_at dksX11_init_0 10 rfl rfl)
theorem dX11_init_11 : decode cX11_init 11 = .ok (.iload_n 3, 1) := dk_29 (dk_at dksX11_init_0 11 rfl rfl)
theorem dX11_init_12 : decode cX11_init 12 = .ok (.putfield 13, 3) := dk_181 0 13 (dk_at dksX11_init_0 12 rfl rfl)
theorem dX11_init_15 : decode cX11_init 15 = .ok (.return_, 1) := dk_177 (dk_at dksX11_init_0 15 rfl rfl)
theorem q101 : (Jvm.Cond.initialized "RoarMill$Size") ∈ lw_all := lw_g (lw_at lw_m1 19 rfl) rfl
theorem q801 : (Jvm.Cond.instantiable "RoarMill$Size" (3 : Nat)) ∈ lw_all := lw_g (lw_at lw_m3 239 rfl) rfl
theorem q803 : (Jvm.Cond.instanceMethod ({ cls := "RoarMill$Size", name := "<init>", desc := "(Ljava/lang/String;II)V" } : Jvm.MethodName)) ∈ lw_all := lw_g (lw_at lw_m4 1 rfl) rfl
theorem q804 : (Jvm.Cond.code ({ cls := "RoarMill$Size", name := "<init>", desc := "(Ljava/lang/String;II)V" } : Jvm.MethodName) prog_10_method_1_code (4 : Nat) (Option.none : Option Jvm.ClassFile.FieldType)) ∈ lw_all := lw_g (lw_at lw_m4 2 rfl) rfl
theorem q805 : (Jvm.Cond.methodLink "RoarMill$Size" (1 : Nat) ({ cls := "RoarMill$Named", name := "<init>", desc := "(Ljava/lang/String;)V" } : Jvm.MethodName)) ∈ lw_all := lw_g (lw_at lw_m4 3 rfl) rfl
theorem q809 : (Jvm.Cond.fieldLink "RoarMill$Size" (7 : Nat) "RoarMill$Size" "breaks" "I") ∈ lw_all := lw_g (lw_at lw_m4 7 rfl) rfl
theorem q812 : (Jvm.Cond.fieldLink "RoarMill$Size" (13 : Nat) "RoarMill$Size" "next" "I") ∈ lw_all := lw_g (lw_at lw_m4 10 rfl) rfl
theorem q817 : (Jvm.Cond.sameField "RoarMill$Size" "RoarMill$Named" "name" "Ljava/lang/String;") ∈ lw_all := lw_g (lw_at lw_m4 15 rfl) rfl
theorem q820 : (Jvm.Cond.laysFinal "RoarMill$Size" "RoarMill$Size" "breaks" "I") ∈ lw_all := lw_g (lw_at lw_m4 18 rfl) rfl
theorem q821 : (Jvm.Cond.soleField "RoarMill$Size" "breaks") ∈ lw_all := lw_g (lw_at lw_m4 19 rfl) rfl
theorem q822 : (Jvm.Cond.laysFinal "RoarMill$Size" "RoarMill$Size" "next" "I") ∈ lw_all := lw_g (lw_at lw_m4 20 rfl) rfl
theorem q823 : (Jvm.Cond.soleField "RoarMill$Size" "next") ∈ lw_all := lw_g (lw_at lw_m4 21 rfl) rfl
theorem q824 : (Jvm.Cond.laysFinal "RoarMill$Size" "RoarMill$Named" "name" "Ljava/lang/String;") ∈ lw_all := lw_g (lw_at lw_m4 22 rfl) rfl
theorem q826 : (Jvm.Cond.superclass "RoarMill$Size" "RoarMill$Named") ∈ lw_all := lw_g (lw_at lw_m4 24 rfl) rfl
theorem q1706 : (Jvm.Cond.castable "RoarMill$Size" "java/lang/Object") ∈ lw_tbl := lw_at lw_m7 184 rfl
theorem in_X11 : ∀ w ∈ wsX110, w ∈ lw_all := lw_in wsX110 [824, 820, 822] (by decide +kernel) (by decide +kernel)

/-! RoarMill$Ore -/
set_option maxRecDepth 100000
def RX12 : String := "RoarMill$Ore"
def TX12 : u_T := fun k => match k with
  | 0 => ("RoarMill$Named", "name", "Ljava/lang/String;", true)
  | 1 => ("RoarMill$Ore", "hard", "I", true)
  | _ => ("RoarMill$Ore", "tons", "[I", true)
def tyX12 : Nat → FieldType := fun k => match k with
  | 0 => .object "java/lang/String"
  | 1 => .int
  | _ => .array .int
abbrev wsX120 : List Cond := u_ws RX12 TX12 3
theorem nmX12 : ∀ a, a < 3 → ∀ b, b < 3 → a ≠ b → (TX12 a).2.1 ≠ (TX12 b).2.1 := by decide +kernel
theorem tyX12_ok : ∀ k, k < 3 → parseFieldDescriptor (TX12 k).2.2.1 = some (tyX12 k) := by decide +kernel
abbrev cX12_init : ByteArray := prog_5_method_1_code
def yX12_init : MethodName := ⟨RX12, "<init>", "(Ljava/lang/String;I)V"⟩
def dkwX12_init_0 : List UInt8 := [42, 43, 183, 0, 3, 42, 8, 188, 10, 181, 0, 9, 42, 28, 181, 0, 15, 177]
abbrev dktX12_init_0 : List UInt8 := dkwX12_init_0 ++ []
theorem dksX12_init_0 : cX12_init.data.toList.drop 0 = dktX12_init_0 := by decide +kernel
theorem dX12_init_0 : decode cX12_init 0 = .ok (.aload_n 0, 1) := dk_42 (dk_at dksX12_init_0 0 rfl rfl)
theorem dX12_init_1 : decode cX12_init 1 = .ok (.aload_n 1, 1) := dk_43 (dk_at dksX12_init_0 1 rfl rfl)
theorem dX12_init_2 : decode cX12_init 2 = .ok (.invokespecial 3, 3) := dk_183 0 3 (dk_at dksX12_init_0 2 rfl rfl)
theorem dX12_init_5 : decode cX12_init 5 = .ok (.aload_n 0, 1) := dk_42 (dk_at dksX12_init_0 5 rfl rfl)
theorem dX12_init_6 : decode cX12_init 6 = .ok (.iconst 5, 1) := dk_8 (dk_at dksX12_init_0 6 rfl rfl)
theorem dX12_init_7 : decode cX12_init 7 = .ok (.newarray .int, 2) := dk_188_10 (dk_at dksX12_init_0 7 rfl rfl)
theorem dX12_init_9 : decode cX12_init 9 = .ok (.putfield 9, 3) := dk_181 0 9 (dk_at dksX12_init_0 9 rfl rfl)
theorem dX12_init_12 : decode cX12_init 12 = .ok (.aload_n 0, 1) := dk_42 (dk_at dksX12_init_0 12 rfl rfl)
theorem dX12_init_13 : decode cX12_init 13 = .ok (.iload_n 2, 1) := dk_28 (dk_at dksX12_init_0 13 rfl rfl)
theorem dX12_init_14 : decode cX12_init 14 = .ok (.putfield 15, 3) := dk_181 0 15 (dk_at dksX12_init_0 14 rfl rfl)
theorem dX12_init_17 : decode cX12_init 17 = .ok (.return_, 1) := dk_177 (dk_at dksX12_init_0 17 rfl rfl)
theorem q102 : (Jvm.Cond.initialized "RoarMill$Ore") ∈ lw_all := lw_g (lw_at lw_m1 20 rfl) rfl
theorem q819 : (Jvm.Cond.sameField "RoarMill$Ore" "RoarMill$Named" "name" "Ljava/lang/String;") ∈ lw_all := lw_g (lw_at lw_m4 17 rfl) rfl
theorem q833 : (Jvm.Cond.instantiable "RoarMill$Ore" (3 : Nat)) ∈ lw_all := lw_g (lw_at lw_m4 31 rfl) rfl
theorem q835 : (Jvm.Cond.instanceMethod ({ cls := "RoarMill$Ore", name := "<init>", desc := "(Ljava/lang/String;I)V" } : Jvm.MethodName)) ∈ lw_all := lw_g (lw_at lw_m4 33 rfl) rfl
theorem q836 : (Jvm.Cond.code ({ cls := "RoarMill$Ore", name := "<init>", desc := "(Ljava/lang/String;I)V" } : Jvm.MethodName) prog_5_method_1_code (3 : Nat) (Option.none : Option Jvm.ClassFile.FieldType)) ∈ lw_all := lw_g (lw_at lw_m4 34 rfl) rfl
theorem q837 : (Jvm.Cond.methodLink "RoarMill$Ore" (3 : Nat) ({ cls := "RoarMill$Named", name := "<init>", desc := "(Ljava/lang/String;)V" } : Jvm.MethodName)) ∈ lw_all := lw_g (lw_at lw_m4 35 rfl) rfl
theorem q838 : (Jvm.Cond.fieldLink "RoarMill$Ore" (15 : Nat) "RoarMill$Ore" "hard" "I") ∈ lw_all := lw_g (lw_at lw_m4 36 rfl) rfl
theorem q840 : (Jvm.Cond.fieldLink "RoarMill$Ore" (9 : Nat) "RoarMill$Ore" "tons" "[I") ∈ lw_all := lw_g (lw_at lw_m4 38 rfl) rfl
theorem q843 : (Jvm.Cond.laysFinal "RoarMill$Ore" "RoarMill$Ore" "hard" "I") ∈ lw_all := lw_g (lw_at lw_m4 41 rfl) rfl
theorem q844 : (Jvm.Cond.soleField "RoarMill$Ore" "hard") ∈ lw_all := lw_g (lw_at lw_m4 42 rfl) rfl
theorem q845 : (Jvm.Cond.laysFinal "RoarMill$Ore" "RoarMill$Ore" "tons" "[I") ∈ lw_all := lw_g (lw_at lw_m4 43 rfl) rfl
theorem q846 : (Jvm.Cond.soleField "RoarMill$Ore" "tons") ∈ lw_all := lw_g (lw_at lw_m4 44 rfl) rfl
theorem q847 : (Jvm.Cond.laysFinal "RoarMill$Ore" "RoarMill$Named" "name" "Ljava/lang/String;") ∈ lw_all := lw_g (lw_at lw_m4 45 rfl) rfl
theorem q848 : (Jvm.Cond.superclass "RoarMill$Ore" "RoarMill$Named") ∈ lw_all := lw_g (lw_at lw_m4 46 rfl) rfl
theorem q1707 : (Jvm.Cond.castable "RoarMill$Ore" "java/lang/Object") ∈ lw_tbl := lw_at lw_m7 185 rfl
theorem in_X12 : ∀ w ∈ wsX120, w ∈ lw_all := lw_in wsX120 [847, 843, 845] (by decide +kernel) (by decide +kernel)

/-! RoarMillModel$Mill -/
set_option maxRecDepth 100000
def RX13 : String := "RoarMillModel$Mill"
def TX13 : u_T := fun k => match k with
  | 0 => ("RoarMillModel$Mill", "room", "I", false)
  | 1 => ("RoarMillModel$Mill", "loud", "I", false)
  | 2 => ("RoarMillModel$Mill", "sieve", "I", false)
  | 3 => ("RoarMillModel$Mill", "slips", "I", false)
  | 4 => ("RoarMillModel$Mill", "life", "I", false)
  | 5 => ("RoarMillModel$Mill", "bin", "I", false)
  | 6 => ("RoarMillModel$Mill", "draws", "I", false)
  | 7 => ("RoarMillModel$Mill", "prices", "I", false)
  | 8 => ("RoarMillModel$Mill", "sizes", "I", false)
  | 9 => ("RoarMillModel$Mill", "ores", "I", false)
  | 10 => ("RoarMillModel$Mill", "names", "I", false)
  | 11 => ("RoarMillModel$Mill", "price", "[I", true)
  | 12 => ("RoarMillModel$Mill", "breaks", "[I", true)
  | 13 => ("RoarMillModel$Mill", "next", "[I", true)
  | 14 => ("RoarMillModel$Mill", "hard", "[I", true)
  | 15 => ("RoarMillModel$Mill", "tons", "[I", true)
  | 16 => ("RoarMillModel$Mill", "name", "[J", true)
  | _ => ("RoarMillModel$Mill", "sense", "[I", true)
def tyX13 : Nat → FieldType := fun k => match k with
  | 0 => .int
  | 1 => .int
  | 2 => .int
  | 3 => .int
  | 4 => .int
  | 5 => .int
  | 6 => .int
  | 7 => .int
  | 8 => .int
  | 9 => .int
  | 10 => .int
  | 11 => .array .int
  | 12 => .array .int
  | 13 => .array .int
  | 14 => .array .int
  | 15 => .array .int
  | 16 => .array .long
  | _ => .array .int
abbrev wsX130 : List Cond := u_ws RX13 TX13 18
set_option maxRecDepth 100000 in
theorem nmX13 : ∀ a, a < 18 → ∀ b, b < 18 → a ≠ b → (TX13 a).2.1 ≠ (TX13 b).2.1 := by decide +kernel
set_option maxRecDepth 100000 in
theorem tyX13_ok : ∀ k, k < 18 → parseFieldDescriptor (TX13 k).2.2.1 = some (tyX13 k) := by decide +kernel
abbrev cX13_init : ByteArray := prog_15_method_1_code
def yX13_init : MethodName := ⟨RX13, "<init>", "()V"⟩
def dkwX13_init_3 : List UInt8 := [188, 10, 181, 0, 44, 177]
abbrev dktX13_init_3 : List UInt8 := dkwX13_init_3 ++ []
def dkwX13_init_2 : List UInt8 := [188, 10, 181, 0, 34, 42, 16, 20, 188, 10, 181, 0, 37, 42, 16, 9, 188, 11, 181, 0, 40, 42, 16, 9]
abbrev dktX13_init_2 : List UInt8 := dkwX13_init_2 ++ dktX13_init_3
def dkwX13_init_1 : List UInt8 := [42, 16, 6, 188, 10, 181, 0, 24, 42, 8, 188, 10, 181, 0, 28, 42, 8, 188, 10, 181, 0, 31, 42, 7]
abbrev dktX13_init_1 : List UInt8 := dkwX13_init_1 ++ dktX13_init_2
def dkwX13_init_0 : List UInt8 := [42, 183, 0, 3, 42, 2, 181, 0, 9, 42, 2, 181, 0, 15, 42, 2, 181, 0, 18, 42, 2, 181, 0, 21]
abbrev dktX13_init_0 : List UInt8 := dkwX13_init_0 ++ dktX13_init_1
theorem dksX13_init_0 : cX13_init.data.toList.drop 0 = dktX13_init_0 := by decide +kernel
theorem dksX13_init_1 : cX13_init.data.toList.drop 24 = dktX13_init_1 := dk_seg dksX13_init_0 24 rfl rfl
theorem dksX13_init_2 : cX13_init.data.toList.drop 48 = dktX13_init_2 := dk_seg dksX13_init_1 24 rfl rfl
theorem dksX13_init_3 : cX13_init.data.toList.drop 72 = dktX13_init_3 := dk_seg dksX13_init_2 24 rfl rfl
theorem dX13_init_0 : decode cX13_init 0 = .ok (.aload_n 0, 1) := dk_42 (dk_at dksX13_init_0 0 rfl rfl)
theorem dX13_init_1 : decode cX13_init 1 = .ok (.invokespecial 3, 3) := dk_183 0 3 (dk_at dksX13_init_0 1 rfl rfl)
theorem dX13_init_4 : decode cX13_init 4 = .ok (.aload_n 0, 1) := dk_42 (dk_at dksX13_init_0 4 rfl rfl)
theorem dX13_init_5 : decode cX13_init 5 = .ok (.iconst (-1), 1) := dk_2 (dk_at dksX13_init_0 5 rfl rfl)
theorem dX13_init_6 : decode cX13_init 6 = .ok (.putfield 9, 3) := dk_181 0 9 (dk_at dksX13_init_0 6 rfl rfl)
theorem dX13_init_9 : decode cX13_init 9 = .ok (.aload_n 0, 1) := dk_42 (dk_at dksX13_init_0 9 rfl rfl)
theorem dX13_init_10 : decode cX13_init 10 = .ok (.iconst (-1), 1) := dk_2 (dk_at dksX13_init_0 10 rfl rfl)
theorem dX13_init_11 : decode cX13_init 11 = .ok (.putfield 15, 3) := dk_181 0 15 (dk_at dksX13_init_0 11 rfl rfl)
theorem dX13_init_14 : decode cX13_init 14 = .ok (.aload_n 0, 1) := dk_42 (dk_at dksX13_init_0 14 rfl rfl)
theorem dX13_init_15 : decode cX13_init 15 = .ok (.iconst (-1), 1) := dk_2 (dk_at dksX13_init_0 15 rfl rfl)
theorem dX13_init_16 : decode cX13_init 16 = .ok (.putfield 18, 3) := dk_181 0 18 (dk_at dksX13_init_0 16 rfl rfl)
theorem dX13_init_19 : decode cX13_init 19 = .ok (.aload_n 0, 1) := dk_42 (dk_at dksX13_init_0 19 rfl rfl)
theorem dX13_init_20 : decode cX13_init 20 = .ok (.iconst (-1), 1) := dk_2 (dk_at dksX13_init_0 20 rfl rfl)
theorem dX13_init_21 : decode cX13_init 21 = .ok (.putfield 21, 3) := dk_181 0 21 (dk_at dksX13_init_0 21 rfl rfl)
theorem dX13_init_24 : decode cX13_init 24 = .ok (.aload_n 0, 1) := dk_42 (dk_at dksX13_init_1 0 rfl rfl)
theorem dX13_init_25 : decode cX13_init 25 = .ok (.bipush 6, 2) := dk_16 6 (dk_at dksX13_init_1 1 rfl rfl)
theorem dX13_init_27 : decode cX13_init 27 = .ok (.newarray .int, 2) := dk_188_10 (dk_at dksX13_init_1 3 rfl rfl)
theorem dX13_init_29 : decode cX13_init 29 = .ok (.putfield 24, 3) := dk_181 0 24 (dk_at dksX13_init_1 5 rfl rfl)
theorem dX13_init_32 : decode cX13_init 32 = .ok (.aload_n 0, 1) := dk_42 (dk_at dksX13_init_1 8 rfl rfl)
theorem dX13_init_33 : decode cX13_init 33 = .ok (.iconst 5, 1) := dk_8 (dk_at dksX13_init_1 9 rfl rfl)
theorem dX13_init_34 : decode cX13_init 34 = .ok (.newarray .int, 2) := dk_188_10 (dk_at dksX13_init_1 10 rfl rfl)
theorem dX13_init_36 : decode cX13_init 36 = .ok (.putfield 28, 3) := dk_181 0 28 (dk_at dksX13_init_1 12 rfl rfl)
theorem dX13_init_39 : decode cX13_init 39 = .ok (.aload_n 0, 1) := dk_42 (dk_at dksX13_init_1 15 rfl rfl)
theorem dX13_init_40 : decode cX13_init 40 = .ok (.iconst 5, 1) := dk_8 (dk_at dksX13_init_1 16 rfl rfl)
theorem dX13_init_41 : decode cX13_init 41 = .ok (.newarray .int, 2) := dk_188_10 (dk_at dksX13_init_1 17 rfl rfl)
theorem dX13_init_43 : decode cX13_init 43 = .ok (.putfield 31, 3) := dk_181 0 31 (dk_at dksX13_init_1 19 rfl rfl)
theorem dX13_init_46 : decode cX13_init 46 = .ok (.aload_n 0, 1) := dk_42 (dk_at dksX13_init_1 22 rfl rfl)
theorem dX13_init_47 : decode cX13_init 47 = .ok (.iconst 4, 1) := dk_7 (dk_at dksX13_init_1 23 rfl rfl)
theorem dX13_init_48 : decode cX13_init 48 = .ok (.newarray .int, 2) := dk_188_10 (dk_at dksX13_init_2 0 rfl rfl)
theorem dX13_init_50 : decode cX13_init 50 = .ok (.putfield 34, 3) := dk_181 0 34 (dk_at dksX13_init_2 2 rfl rfl)
theorem dX13_init_53 : decode cX13_init 53 = .ok (.aload_n 0, 1) := dk_42 (dk_at dksX13_init_2 5 rfl rfl)
theorem dX13_init_54 : decode cX13_init 54 = .ok (.bipush 20, 2) := dk_16 20 (dk_at dksX13_init_2 6 rfl rfl)
theorem dX13_init_56 : decode cX13_init 56 = .ok (.newarray .int, 2) := dk_188_10 (dk_at dksX13_init_2 8 rfl rfl)
theorem dX13_init_58 : decode cX13_init 58 = .ok (.putfield 37, 3) := dk_181 0 37 (dk_at dksX13_init_2 10 rfl rfl)
theorem dX13_init_61 : decode cX13_init 61 = .ok (.aload_n 0, 1) := dk_42 (dk_at dksX13_init_2 13 rfl rfl)
theorem dX13_init_62 : decode cX13_init 62 = .ok (.bipush 9, 2) := dk_16 9 (dk_at dksX13_init_2 14 rfl rfl)
theorem dX13_init_64 : decode cX13_init 64 = .ok (.newarray .long, 2) := dk_188_11 (dk_at dksX13_init_2 16 rfl rfl)
theorem dX13_init_66 : decode cX13_init 66 = .ok (.putfield 40, 3) := dk_181 0 40 (dk_at dksX13_init_2 18 rfl rfl)
theorem dX13_init_69 : decode cX13_init 69 = .ok (.aload_n 0, 1) := dk_42 (dk_at dksX13_init_2 21 rfl rfl)
theorem dX13_init_70 : decode cX13_init 70 = .ok (.bipush 9, 2) := dk_16 9 (dk_at dksX13_init_2 22 rfl rfl)
theorem dX13_init_72 : decode cX13_init 72 = .ok (.newarray .int, 2) := dk_188_10 (dk_at dksX13_init_3 0 rfl rfl)
theorem dX13_init_74 : decode cX13_init 74 = .ok (.putfield 44, 3) := dk_181 0 44 (dk_at dksX13_init_3 2 rfl rfl)
theorem dX13_init_77 : decode cX13_init 77 = .ok (.return_, 1) := dk_177 (dk_at dksX13_init_3 5 rfl rfl)
abbrev cX13_find : ByteArray := prog_15_method_2_code
def yX13_find : MethodName := ⟨RX13, "find", "(J)I"⟩
def dkwX13_find_1 : List UInt8 := [132, 3, 1, 167, 255, 232, 2, 172]
abbrev dktX13_find_1 : List UInt8 := dkwX13_find_1 ++ []
def dkwX13_find_0 : List UInt8 := [3, 62, 29, 42, 180, 0, 47, 162, 0, 22, 42, 180, 0, 40, 29, 47, 31, 148, 154, 0, 5, 29, 172]
abbrev dktX13_find_0 : List UInt8 := dkwX13_find_0 ++ dktX13_find_1
theorem dksX13_find_0 : cX13_find.data.toList.drop 0 = dktX13_find_0 := by decide +kernel
theorem dksX13_find_1 : cX13_find.data.toList.drop 23 = dktX13_find_1 := dk_seg dksX13_find_0 23 rfl rfl
theorem dX13_find_0 : decode cX13_find 0 = .ok (.iconst 0, 1) := dk_3 (dk_at dksX13_find_0 0 rfl rfl)
theorem dX13_find_1 : decode cX13_find 1 = .ok (.istore_n 3, 1) := dk_62 (dk_at dksX13_find_0 1 rfl rfl)
theorem dX13_find_2 : decode cX13_find 2 = .ok (.iload_n 3, 1) := dk_29 (dk_at dksX13_find_0 2 rfl rfl)
theorem dX13_find_3 : decode cX13_find 3 = .ok (.aload_n 0, 1) := dk_42 (dk_at dksX13_find_0 3 rfl rfl)
theorem dX13_find_4 : decode cX13_find 4 = .ok (.getfield 47, 3) := dk_180 0 47 (dk_at dksX13_find_0 4 rfl rfl)
theorem dX13_find_7 : decode cX13_find 7 = .ok (.if_icmp .ge 22, 3) := dk_162 0 22 (dk_at dksX13_find_0 7 rfl rfl)
theorem dX13_find_10 : decode cX13_find 10 = .ok (.aload_n 0, 1) := dk_42 (dk_at dksX13_find_0 10 rfl rfl)
theorem dX13_find_11 : decode cX13_find 11 = .ok (.getfield 40, 3) := dk_180 0 40 (dk_at dksX13_find_0 11 rfl rfl)
theorem dX13_find_14 : decode cX13_find 14 = .ok (.iload_n 3, 1) := dk_29 (dk_at dksX13_find_0 14 rfl rfl)
theorem dX13_find_15 : decode cX13_find 15 = .ok (.laload, 1) := dk_47 (dk_at dksX13_find_0 15 rfl rfl)
theorem dX13_find_16 : decode cX13_find 16 = .ok (.lload_n 1, 1) := dk_31 (dk_at dksX13_find_0 16 rfl rfl)
theorem dX13_find_17 : decode cX13_find 17 = .ok (.lcmp, 1) := dk_148 (dk_at dksX13_find_0 17 rfl rfl)
theorem dX13_find_18 : decode cX13_find 18 = .ok (.ifCond .ne 5, 3) := dk_154 0 5 (dk_at dksX13_find_0 18 rfl rfl)
theorem dX13_find_21 : decode cX13_find 21 = .ok (.iload_n 3, 1) := dk_29 (dk_at dksX13_find_0 21 rfl rfl)
theorem dX13_find_22 : decode cX13_find 22 = .ok (.ireturn, 1) := dk_172 (dk_at dksX13_find_0 22 rfl rfl)
theorem dX13_find_23 : decode cX13_find 23 = .ok (.iinc 3 1, 3) := dk_132 3 1 (dk_at dksX13_find_1 0 rfl rfl)
theorem dX13_find_26 : decode cX13_find 26 = .ok (.goto (-24), 3) := dk_167 255 232 (dk_at dksX13_find_1 3 rfl rfl)
theorem dX13_find_29 : decode cX13_find 29 = .ok (.iconst (-1), 1) := dk_2 (dk_at dksX13_find_1 6 rfl rfl)
theorem dX13_find_30 : decode cX13_find 30 = .ok (.ireturn, 1) := dk_172 (dk_at dksX13_find_1 7 rfl rfl)
theorem q103 : (Jvm.Cond.initialized "RoarMillModel$Mill") ∈ lw_all := lw_g (lw_at lw_m1 21 rfl) rfl
theorem q1270 : (Jvm.Cond.instantiable "RoarMillModel$Mill" (18 : Nat)) ∈ lw_all := lw_g (lw_at lw_m5 228 rfl) rfl
theorem q1272 : (Jvm.Cond.instanceMethod ({ cls := "RoarMillModel$Mill", name := "<init>", desc := "()V" } : Jvm.MethodName)) ∈ lw_all := lw_g (lw_at lw_m5 230 rfl) rfl
theorem q1273 : (Jvm.Cond.code ({ cls := "RoarMillModel$Mill", name := "<init>", desc := "()V" } : Jvm.MethodName) prog_15_method_1_code (1 : Nat) (Option.none : Option Jvm.ClassFile.FieldType)) ∈ lw_all := lw_g (lw_at lw_m5 231 rfl) rfl
theorem q1274 : (Jvm.Cond.methodLink "RoarMillModel$Mill" (3 : Nat) ({ cls := "java/lang/Object", name := "<init>", desc := "()V" } : Jvm.MethodName)) ∈ lw_all := lw_g (lw_at lw_m5 232 rfl) rfl
theorem q1275 : (Jvm.Cond.fieldLink "RoarMillModel$Mill" (9 : Nat) "RoarMillModel$Mill" "room" "I") ∈ lw_all := lw_g (lw_at lw_m5 233 rfl) rfl
theorem q1278 : (Jvm.Cond.fieldLink "RoarMillModel$Mill" (15 : Nat) "RoarMillModel$Mill" "sieve" "I") ∈ lw_all := lw_g (lw_at lw_m5 236 rfl) rfl
theorem q1281 : (Jvm.Cond.fieldLink "RoarMillModel$Mill" (18 : Nat) "RoarMillModel$Mill" "life" "I") ∈ lw_all := lw_g (lw_at lw_m5 239 rfl) rfl
theorem q1283 : (Jvm.Cond.fieldLink "RoarMillModel$Mill" (21 : Nat) "RoarMillModel$Mill" "bin" "I") ∈ lw_all := lw_g (lw_at lw_m6 1 rfl) rfl
theorem q1289 : (Jvm.Cond.fieldLink "RoarMillModel$Mill" (47 : Nat) "RoarMillModel$Mill" "names" "I") ∈ lw_all := lw_g (lw_at lw_m6 7 rfl) rfl
theorem q1291 : (Jvm.Cond.fieldLink "RoarMillModel$Mill" (24 : Nat) "RoarMillModel$Mill" "price" "[I") ∈ lw_all := lw_g (lw_at lw_m6 9 rfl) rfl
theorem q1293 : (Jvm.Cond.fieldLink "RoarMillModel$Mill" (28 : Nat) "RoarMillModel$Mill" "breaks" "[I") ∈ lw_all := lw_g (lw_at lw_m6 11 rfl) rfl
theorem q1295 : (Jvm.Cond.fieldLink "RoarMillModel$Mill" (31 : Nat) "RoarMillModel$Mill" "next" "[I") ∈ lw_all := lw_g (lw_at lw_m6 13 rfl) rfl
theorem q1297 : (Jvm.Cond.fieldLink "RoarMillModel$Mill" (34 : Nat) "RoarMillModel$Mill" "hard" "[I") ∈ lw_all := lw_g (lw_at lw_m6 15 rfl) rfl
theorem q1299 : (Jvm.Cond.fieldLink "RoarMillModel$Mill" (37 : Nat) "RoarMillModel$Mill" "tons" "[I") ∈ lw_all := lw_g (lw_at lw_m6 17 rfl) rfl
theorem q1301 : (Jvm.Cond.fieldLink "RoarMillModel$Mill" (40 : Nat) "RoarMillModel$Mill" "name" "[J") ∈ lw_all := lw_g (lw_at lw_m6 19 rfl) rfl
theorem q1303 : (Jvm.Cond.fieldLink "RoarMillModel$Mill" (44 : Nat) "RoarMillModel$Mill" "sense" "[I") ∈ lw_all := lw_g (lw_at lw_m6 21 rfl) rfl
theorem q1305 : (Jvm.Cond.lays "RoarMillModel$Mill" "RoarMillModel$Mill" "room" "I") ∈ lw_all := lw_g (lw_at lw_m6 23 rfl) rfl
theorem q1306 : (Jvm.Cond.soleField "RoarMillModel$Mill" "room") ∈ lw_all := lw_g (lw_at lw_m6 24 rfl) rfl
theorem q1307 : (Jvm.Cond.lays "RoarMillModel$Mill" "RoarMillModel$Mill" "loud" "I") ∈ lw_all := lw_g (lw_at lw_m6 25 rfl) rfl
theorem q1308 : (Jvm.Cond.soleField "RoarMillModel$Mill" "loud") ∈ lw_all := lw_g (lw_at lw_m6 26 rfl) rfl
theorem q1309 : (Jvm.Cond.lays "RoarMillModel$Mill" "RoarMillModel$Mill" "sieve" "I") ∈ lw_all := lw_g (lw_at lw_m6 27 rfl) rfl
theorem q1310 : (Jvm.Cond.soleField "RoarMillModel$Mill" "sieve") ∈ lw_all := lw_g (lw_at lw_m6 28 rfl) rfl
theorem q1311 : (Jvm.Cond.lays "RoarMillModel$Mill" "RoarMillModel$Mill" "slips" "I") ∈ lw_all := lw_g (lw_at lw_m6 29 rfl) rfl
theorem q1312 : (Jvm.Cond.soleField "RoarMillModel$Mill" "slips") ∈ lw_all := lw_g (lw_at lw_m6 30 rfl) rfl
theorem q1313 : (Jvm.Cond.lays "RoarMillModel$Mill" "RoarMillModel$Mill" "life" "I") ∈ lw_all := lw_g (lw_at lw_m6 31 rfl) rfl
theorem q1314 : (Jvm.Cond.soleField "RoarMillModel$Mill" "life") ∈ lw_all := lw_g (lw_at lw_m6 32 rfl) rfl
theorem q1315 : (Jvm.Cond.lays "RoarMillModel$Mill" "RoarMillModel$Mill" "bin" "I") ∈ lw_all := lw_g (lw_at lw_m6 33 rfl) rfl
theorem q1316 : (Jvm.Cond.soleField "RoarMillModel$Mill" "bin") ∈ lw_all := lw_g (lw_at lw_m6 34 rfl) rfl
theorem q1317 : (Jvm.Cond.lays "RoarMillModel$Mill" "RoarMillModel$Mill" "draws" "I") ∈ lw_all := lw_g (lw_at lw_m6 35 rfl) rfl
theorem q1318 : (Jvm.Cond.soleField "RoarMillModel$Mill" "draws") ∈ lw_all := lw_g (lw_at lw_m6 36 rfl) rfl
theorem q1319 : (Jvm.Cond.lays "RoarMillModel$Mill" "RoarMillModel$Mill" "prices" "I") ∈ lw_all := lw_g (lw_at lw_m6 37 rfl) rfl
theorem q1320 : (Jvm.Cond.soleField "RoarMillModel$Mill" "prices") ∈ lw_all := lw_g (lw_at lw_m6 38 rfl) rfl
theorem q1321 : (Jvm.Cond.lays "RoarMillModel$Mill" "RoarMillModel$Mill" "sizes" "I") ∈ lw_all := lw_g (lw_at lw_m6 39 rfl) rfl
theorem q1322 : (Jvm.Cond.soleField "RoarMillModel$Mill" "sizes") ∈ lw_all := lw_g (lw_at lw_m6 40 rfl) rfl
theorem q1323 : (Jvm.Cond.lays "RoarMillModel$Mill" "RoarMillModel$Mill" "ores" "I") ∈ lw_all := lw_g (lw_at lw_m6 41 rfl) rfl
theorem q1324 : (Jvm.Cond.soleField "RoarMillModel$Mill" "ores") ∈ lw_all := lw_g (lw_at lw_m6 42 rfl) rfl
theorem q1325 : (Jvm.Cond.lays "RoarMillModel$Mill" "RoarMillModel$Mill" "names" "I") ∈ lw_all := lw_g (lw_at lw_m6 43 rfl) rfl
theorem q1326 : (Jvm.Cond.soleField "RoarMillModel$Mill" "names") ∈ lw_all := lw_g (lw_at lw_m6 44 rfl) rfl
theorem q1327 : (Jvm.Cond.laysFinal "RoarMillModel$Mill" "RoarMillModel$Mill" "price" "[I") ∈ lw_all := lw_g (lw_at lw_m6 45 rfl) rfl
theorem q1328 : (Jvm.Cond.soleField "RoarMillModel$Mill" "price") ∈ lw_all := lw_g (lw_at lw_m6 46 rfl) rfl
theorem q1329 : (Jvm.Cond.laysFinal "RoarMillModel$Mill" "RoarMillModel$Mill" "breaks" "[I") ∈ lw_all := lw_g (lw_at lw_m6 47 rfl) rfl
theorem q1330 : (Jvm.Cond.soleField "RoarMillModel$Mill" "breaks") ∈ lw_all := lw_g (lw_at lw_m6 48 rfl) rfl
theorem q1331 : (Jvm.Cond.laysFinal "RoarMillModel$Mill" "RoarMillModel$Mill" "next" "[I") ∈ lw_all := lw_g (lw_at lw_m6 49 rfl) rfl
theorem q1332 : (Jvm.Cond.soleField "RoarMillModel$Mill" "next") ∈ lw_all := lw_g (lw_at lw_m6 50 rfl) rfl
theorem q1333 : (Jvm.Cond.laysFinal "RoarMillModel$Mill" "RoarMillModel$Mill" "hard" "[I") ∈ lw_all := lw_g (lw_at lw_m6 51 rfl) rfl
theorem q1334 : (Jvm.Cond.soleField "RoarMillModel$Mill" "hard") ∈ lw_all := lw_g (lw_at lw_m6 52 rfl) rfl
theorem q1335 : (Jvm.Cond.laysFinal "RoarMillModel$Mill" "RoarMillModel$Mill" "tons" "[I") ∈ lw_all := lw_g (lw_at lw_m6 53 rfl) rfl
theorem q1336 : (Jvm.Cond.soleField "RoarMillModel$Mill" "tons") ∈ lw_all := lw_g (lw_at lw_m6 54 rfl) rfl
theorem q1337 : (Jvm.Cond.laysFinal "RoarMillModel$Mill" "RoarMillModel$Mill" "name" "[J") ∈ lw_all := lw_g (lw_at lw_m6 55 rfl) rfl
theorem q1338 : (Jvm.Cond.soleField "RoarMillModel$Mill" "name") ∈ lw_all := lw_g (lw_at lw_m6 56 rfl) rfl
theorem q1339 : (Jvm.Cond.laysFinal "RoarMillModel$Mill" "RoarMillModel$Mill" "sense" "[I") ∈ lw_all := lw_g (lw_at lw_m6 57 rfl) rfl
theorem q1340 : (Jvm.Cond.soleField "RoarMillModel$Mill" "sense") ∈ lw_all := lw_g (lw_at lw_m6 58 rfl) rfl
theorem q1341 : (Jvm.Cond.superclass "RoarMillModel$Mill" "java/lang/Object") ∈ lw_all := lw_g (lw_at lw_m6 59 rfl) rfl
theorem q1445 : (Jvm.Cond.instanceMethod ({ cls := "RoarMillModel$Mill", name := "find", desc := "(J)I" } : Jvm.MethodName)) ∈ lw_all := lw_g (lw_at lw_m6 163 rfl) rfl
theorem q1446 : (Jvm.Cond.selects "RoarMillModel$Mill" ({ cls := "RoarMillModel$Mill", name := "find", desc := "(J)I" } : Jvm.MethodName) ({ cls := "RoarMillModel$Mill", name := "find", desc := "(J)I" } : Jvm.MethodName)) ∈ lw_all := lw_g (lw_at lw_m6 164 rfl) rfl
theorem q1447 : (Jvm.Cond.code ({ cls := "RoarMillModel$Mill", name := "find", desc := "(J)I" } : Jvm.MethodName) prog_15_method_2_code (4 : Nat) (Option.some Jvm.ClassFile.FieldType.int)) ∈ lw_all := lw_g (lw_at lw_m6 165 rfl) rfl
theorem q1708 : (Jvm.Cond.castable "RoarMillModel$Mill" "java/lang/Object") ∈ lw_tbl := lw_at lw_m7 186 rfl
theorem in_X13 : ∀ w ∈ wsX130, w ∈ lw_all := lw_in wsX130 [1305, 1307, 1309, 1311, 1313, 1315, 1317, 1319, 1321, 1323, 1325, 1327, 1329, 1331, 1333, 1335, 1337, 1339] (by decide +kernel) (by decide +kernel)

