set_option maxRecDepth 100000
abbrev cX8_tons : ByteArray := prog_14_method_46_code
def yX8_tons : MethodName := ⟨RX8, "tons", "(II)I"⟩
def dkwX8_tons_2 : List UInt8 := [160, 0, 8, 16, 10, 167, 0, 5, 16, 15, 27, 96, 46, 172]
abbrev dktX8_tons_2 : List UInt8 := dkwX8_tons_2 ++ []
def dkwX8_tons_1 : List UInt8 := [42, 180, 0, 17, 28, 154, 0, 7, 3, 167, 0, 24, 28, 4, 160, 0, 7, 8, 167, 0, 15, 28, 5]
abbrev dktX8_tons_1 : List UInt8 := dkwX8_tons_1 ++ dktX8_tons_2
def dkwX8_tons_0 : List UInt8 := [42, 3, 181, 0, 73, 42, 27, 182, 1, 79, 153, 0, 12, 28, 3, 6, 184, 0, 149, 154, 0, 5, 2, 172]
abbrev dktX8_tons_0 : List UInt8 := dkwX8_tons_0 ++ dktX8_tons_1
theorem dksX8_tons_0 : cX8_tons.data.toList.drop 0 = dktX8_tons_0 := by decide +kernel
theorem dksX8_tons_1 : cX8_tons.data.toList.drop 24 = dktX8_tons_1 := dk_seg dksX8_tons_0 24 rfl rfl
theorem dksX8_tons_2 : cX8_tons.data.toList.drop 47 = dktX8_tons_2 := dk_seg dksX8_tons_1 23 rfl rfl
theorem dX8_tons_0 : decode cX8_tons 0 = .ok (.aload_n 0, 1) := dk_42 (dk_at dksX8_tons_0 0 rfl rfl)
theorem dX8_tons_1 : decode cX8_tons 1 = .ok (.iconst 0, 1) := dk_3 (dk_at dksX8_tons_0 1 rfl rfl)
theorem dX8_tons_2 : decode cX8_tons 2 = .ok (.putfield 73, 3) := dk_181 0 73 (dk_at dksX8_tons_0 2 rfl rfl)
theorem dX8_tons_5 : decode cX8_tons 5 = .ok (.aload_n 0, 1) := dk_42 (dk_at dksX8_tons_0 5 rfl rfl)
theorem dX8_tons_6 : decode cX8_tons 6 = .ok (.iload_n 1, 1) := dk_27 (dk_at dksX8_tons_0 6 rfl rfl)
theorem dX8_tons_7 : decode cX8_tons 7 = .ok (.invokevirtual 335, 3) := dk_182 1 79 (dk_at dksX8_tons_0 7 rfl rfl)
theorem dX8_tons_10 : decode cX8_tons 10 = .ok (.ifCond .eq 12, 3) := dk_153 0 12 (dk_at dksX8_tons_0 10 rfl rfl)
theorem dX8_tons_13 : decode cX8_tons 13 = .ok (.iload_n 2, 1) := dk_28 (dk_at dksX8_tons_0 13 rfl rfl)
theorem dX8_tons_14 : decode cX8_tons 14 = .ok (.iconst 0, 1) := dk_3 (dk_at dksX8_tons_0 14 rfl rfl)
theorem dX8_tons_15 : decode cX8_tons 15 = .ok (.iconst 3, 1) := dk_6 (dk_at dksX8_tons_0 15 rfl rfl)
theorem dX8_tons_16 : decode cX8_tons 16 = .ok (.invokestatic 149, 3) := dk_184 0 149 (dk_at dksX8_tons_0 16 rfl rfl)
theorem dX8_tons_19 : decode cX8_tons 19 = .ok (.ifCond .ne 5, 3) := dk_154 0 5 (dk_at dksX8_tons_0 19 rfl rfl)
theorem dX8_tons_22 : decode cX8_tons 22 = .ok (.iconst (-1), 1) := dk_2 (dk_at dksX8_tons_0 22 rfl rfl)
theorem dX8_tons_23 : decode cX8_tons 23 = .ok (.ireturn, 1) := dk_172 (dk_at dksX8_tons_0 23 rfl rfl)
theorem dX8_tons_24 : decode cX8_tons 24 = .ok (.aload_n 0, 1) := dk_42 (dk_at dksX8_tons_1 0 rfl rfl)
theorem dX8_tons_25 : decode cX8_tons 25 = .ok (.getfield 17, 3) := dk_180 0 17 (dk_at dksX8_tons_1 1 rfl rfl)
theorem dX8_tons_28 : decode cX8_tons 28 = .ok (.iload_n 2, 1) := dk_28 (dk_at dksX8_tons_1 4 rfl rfl)
theorem dX8_tons_29 : decode cX8_tons 29 = .ok (.ifCond .ne 7, 3) := dk_154 0 7 (dk_at dksX8_tons_1 5 rfl rfl)
theorem dX8_tons_32 : decode cX8_tons 32 = .ok (.iconst 0, 1) := dk_3 (dk_at dksX8_tons_1 8 rfl rfl)
theorem dX8_tons_33 : decode cX8_tons 33 = .ok (.goto 24, 3) := dk_167 0 24 (dk_at dksX8_tons_1 9 rfl rfl)
theorem dX8_tons_36 : decode cX8_tons 36 = .ok (.iload_n 2, 1) := dk_28 (dk_at dksX8_tons_1 12 rfl rfl)
theorem dX8_tons_37 : decode cX8_tons 37 = .ok (.iconst 1, 1) := dk_4 (dk_at dksX8_tons_1 13 rfl rfl)
theorem dX8_tons_38 : decode cX8_tons 38 = .ok (.if_icmp .ne 7, 3) := dk_160 0 7 (dk_at dksX8_tons_1 14 rfl rfl)
theorem dX8_tons_41 : decode cX8_tons 41 = .ok (.iconst 5, 1) := dk_8 (dk_at dksX8_tons_1 17 rfl rfl)
theorem dX8_tons_42 : decode cX8_tons 42 = .ok (.goto 15, 3) := dk_167 0 15 (dk_at dksX8_tons_1 18 rfl rfl)
theorem dX8_tons_45 : decode cX8_tons 45 = .ok (.iload_n 2, 1) := dk_28 (dk_at dksX8_tons_1 21 rfl rfl)
theorem dX8_tons_46 : decode cX8_tons 46 = .ok (.iconst 2, 1) := dk_5 (dk_at dksX8_tons_1 22 rfl rfl)
theorem dX8_tons_47 : decode cX8_tons 47 = .ok (.if_icmp .ne 8, 3) := dk_160 0 8 (dk_at dksX8_tons_2 0 rfl rfl)
theorem dX8_tons_50 : decode cX8_tons 50 = .ok (.bipush 10, 2) := dk_16 10 (dk_at dksX8_tons_2 3 rfl rfl)
theorem dX8_tons_52 : decode cX8_tons 52 = .ok (.goto 5, 3) := dk_167 0 5 (dk_at dksX8_tons_2 5 rfl rfl)
theorem dX8_tons_55 : decode cX8_tons 55 = .ok (.bipush 15, 2) := dk_16 15 (dk_at dksX8_tons_2 8 rfl rfl)
theorem dX8_tons_57 : decode cX8_tons 57 = .ok (.iload_n 1, 1) := dk_27 (dk_at dksX8_tons_2 10 rfl rfl)
theorem dX8_tons_58 : decode cX8_tons 58 = .ok (.iadd, 1) := dk_96 (dk_at dksX8_tons_2 11 rfl rfl)
theorem dX8_tons_59 : decode cX8_tons 59 = .ok (.iaload, 1) := dk_46 (dk_at dksX8_tons_2 12 rfl rfl)
theorem dX8_tons_60 : decode cX8_tons 60 = .ok (.ireturn, 1) := dk_172 (dk_at dksX8_tons_2 13 rfl rfl)
abbrev cX8_isSize : ByteArray := prog_14_method_45_code
def yX8_isSize : MethodName := ⟨RX8, "isSize", "(I)Z"⟩
def dkwX8_isSize_1 : List UInt8 := [167, 0, 4, 3, 172]
abbrev dktX8_isSize_1 : List UInt8 := dkwX8_isSize_1 ++ []
def dkwX8_isSize_0 : List UInt8 := [42, 180, 1, 34, 198, 0, 22, 27, 155, 0, 18, 27, 42, 180, 1, 34, 180, 0, 191, 162, 0, 7, 4]
abbrev dktX8_isSize_0 : List UInt8 := dkwX8_isSize_0 ++ dktX8_isSize_1
theorem dksX8_isSize_0 : cX8_isSize.data.toList.drop 0 = dktX8_isSize_0 := by decide +kernel
theorem dksX8_isSize_1 : cX8_isSize.data.toList.drop 23 = dktX8_isSize_1 := dk_seg dksX8_isSize_0 23 rfl rfl
theorem dX8_isSize_0 : decode cX8_isSize 0 = .ok (.aload_n 0, 1) := dk_42 (dk_at dksX8_isSize_0 0 rfl rfl)
theorem dX8_isSize_1 : decode cX8_isSize 1 = .ok (.getfield 290, 3) := dk_180 1 34 (dk_at dksX8_isSize_0 1 rfl rfl)
theorem dX8_isSize_4 : decode cX8_isSize 4 = .ok (.ifnull 22, 3) := dk_198 0 22 (dk_at dksX8_isSize_0 4 rfl rfl)
theorem dX8_isSize_7 : decode cX8_isSize 7 = .ok (.iload_n 1, 1) := dk_27 (dk_at dksX8_isSize_0 7 rfl rfl)
theorem dX8_isSize_8 : decode cX8_isSize 8 = .ok (.ifCond .lt 18, 3) := dk_155 0 18 (dk_at dksX8_isSize_0 8 rfl rfl)
theorem dX8_isSize_11 : decode cX8_isSize 11 = .ok (.iload_n 1, 1) := dk_27 (dk_at dksX8_isSize_0 11 rfl rfl)
theorem dX8_isSize_12 : decode cX8_isSize 12 = .ok (.aload_n 0, 1) := dk_42 (dk_at dksX8_isSize_0 12 rfl rfl)
theorem dX8_isSize_13 : decode cX8_isSize 13 = .ok (.getfield 290, 3) := dk_180 1 34 (dk_at dksX8_isSize_0 13 rfl rfl)
theorem dX8_isSize_16 : decode cX8_isSize 16 = .ok (.getfield 191, 3) := dk_180 0 191 (dk_at dksX8_isSize_0 16 rfl rfl)
theorem dX8_isSize_19 : decode cX8_isSize 19 = .ok (.if_icmp .ge 7, 3) := dk_162 0 7 (dk_at dksX8_isSize_0 19 rfl rfl)
theorem dX8_isSize_22 : decode cX8_isSize 22 = .ok (.iconst 1, 1) := dk_4 (dk_at dksX8_isSize_0 22 rfl rfl)
theorem dX8_isSize_23 : decode cX8_isSize 23 = .ok (.goto 4, 3) := dk_167 0 4 (dk_at dksX8_isSize_1 0 rfl rfl)
theorem dX8_isSize_26 : decode cX8_isSize 26 = .ok (.iconst 0, 1) := dk_3 (dk_at dksX8_isSize_1 3 rfl rfl)
theorem dX8_isSize_27 : decode cX8_isSize 27 = .ok (.ireturn, 1) := dk_172 (dk_at dksX8_isSize_1 4 rfl rfl)
abbrev cX8_state : ByteArray := prog_14_method_47_code
def yX8_state : MethodName := ⟨RX8, "state", "(I)I"⟩
def dkwX8_state_1 : List UInt8 := [167, 0, 4, 2, 172]
abbrev dktX8_state_1 : List UInt8 := dkwX8_state_1 ++ []
def dkwX8_state_0 : List UInt8 := [42, 3, 181, 0, 73, 27, 3, 16, 16, 184, 0, 149, 153, 0, 15, 42, 180, 0, 17, 16, 20, 27, 96, 46]
abbrev dktX8_state_0 : List UInt8 := dkwX8_state_0 ++ dktX8_state_1
theorem dksX8_state_0 : cX8_state.data.toList.drop 0 = dktX8_state_0 := by decide +kernel
theorem dksX8_state_1 : cX8_state.data.toList.drop 24 = dktX8_state_1 := dk_seg dksX8_state_0 24 rfl rfl
theorem dX8_state_0 : decode cX8_state 0 = .ok (.aload_n 0, 1) := dk_42 (dk_at dksX8_state_0 0 rfl rfl)
theorem dX8_state_1 : decode cX8_state 1 = .ok (.iconst 0, 1) := dk_3 (dk_at dksX8_state_0 1 rfl rfl)
theorem dX8_state_2 : decode cX8_state 2 = .ok (.putfield 73, 3) := dk_181 0 73 (dk_at dksX8_state_0 2 rfl rfl)
theorem dX8_state_5 : decode cX8_state 5 = .ok (.iload_n 1, 1) := dk_27 (dk_at dksX8_state_0 5 rfl rfl)
theorem dX8_state_6 : decode cX8_state 6 = .ok (.iconst 0, 1) := dk_3 (dk_at dksX8_state_0 6 rfl rfl)
theorem dX8_state_7 : decode cX8_state 7 = .ok (.bipush 16, 2) := dk_16 16 (dk_at dksX8_state_0 7 rfl rfl)
theorem dX8_state_9 : decode cX8_state 9 = .ok (.invokestatic 149, 3) := dk_184 0 149 (dk_at dksX8_state_0 9 rfl rfl)
theorem dX8_state_12 : decode cX8_state 12 = .ok (.ifCond .eq 15, 3) := dk_153 0 15 (dk_at dksX8_state_0 12 rfl rfl)
theorem dX8_state_15 : decode cX8_state 15 = .ok (.aload_n 0, 1) := dk_42 (dk_at dksX8_state_0 15 rfl rfl)
theorem dX8_state_16 : decode cX8_state 16 = .ok (.getfield 17, 3) := dk_180 0 17 (dk_at dksX8_state_0 16 rfl rfl)
theorem dX8_state_19 : decode cX8_state 19 = .ok (.bipush 20, 2) := dk_16 20 (dk_at dksX8_state_0 19 rfl rfl)
theorem dX8_state_21 : decode cX8_state 21 = .ok (.iload_n 1, 1) := dk_27 (dk_at dksX8_state_0 21 rfl rfl)
theorem dX8_state_22 : decode cX8_state 22 = .ok (.iadd, 1) := dk_96 (dk_at dksX8_state_0 22 rfl rfl)
theorem dX8_state_23 : decode cX8_state 23 = .ok (.iaload, 1) := dk_46 (dk_at dksX8_state_0 23 rfl rfl)
theorem dX8_state_24 : decode cX8_state 24 = .ok (.goto 4, 3) := dk_167 0 4 (dk_at dksX8_state_1 0 rfl rfl)
theorem dX8_state_27 : decode cX8_state 27 = .ok (.iconst (-1), 1) := dk_2 (dk_at dksX8_state_1 3 rfl rfl)
theorem dX8_state_28 : decode cX8_state 28 = .ok (.ireturn, 1) := dk_172 (dk_at dksX8_state_1 4 rfl rfl)
abbrev cX8_program : ByteArray := prog_14_method_48_code
def yX8_program : MethodName := ⟨RX8, "program", "(IIII)Z"⟩
def dkwX8_program_3 : List UInt8 := [27, 21, 4, 79, 42, 182, 1, 73, 172]
abbrev dktX8_program_3 : List UInt8 := dkwX8_program_3 ++ []
def dkwX8_program_2 : List UInt8 := [42, 5, 182, 1, 70, 172, 42, 180, 0, 27, 27, 28, 79, 42, 180, 0, 30, 27, 29, 79, 42, 180, 0, 33]
abbrev dktX8_program_2 : List UInt8 := dkwX8_program_2 ++ dktX8_program_3
def dkwX8_program_1 : List UInt8 := [42, 4, 182, 1, 70, 172, 28, 3, 6, 184, 0, 149, 153, 0, 12, 29, 3, 6, 184, 0, 149, 154, 0, 9]
abbrev dktX8_program_1 : List UInt8 := dkwX8_program_1 ++ dktX8_program_2
def dkwX8_program_0 : List UInt8 := [42, 3, 181, 0, 73, 27, 3, 16, 11, 184, 0, 149, 153, 0, 12, 42, 21, 4, 182, 1, 67, 154, 0, 9]
abbrev dktX8_program_0 : List UInt8 := dkwX8_program_0 ++ dktX8_program_1
theorem dksX8_program_0 : cX8_program.data.toList.drop 0 = dktX8_program_0 := by decide +kernel
theorem dksX8_program_1 : cX8_program.data.toList.drop 24 = dktX8_program_1 := dk_seg dksX8_program_0 24 rfl rfl
theorem dksX8_program_2 : cX8_program.data.toList.drop 48 = dktX8_program_2 := dk_seg dksX8_program_1 24 rfl rfl
theorem dksX8_program_3 : cX8_program.data.toList.drop 72 = dktX8_program_3 := dk_seg dksX8_program_2 24 rfl rfl
theorem dX8_program_0 : decode cX8_program 0 = .ok (.aload_n 0, 1) := dk_42 (dk_at dksX8_program_0 0 rfl rfl)
theorem dX8_program_1 : decode cX8_program 1 = .ok (.iconst 0, 1) := dk_3 (dk_at dksX8_program_0 1 rfl rfl)
theorem dX8_program_2 : decode cX8_program 2 = .ok (.putfield 73, 3) := dk_181 0 73 (dk_at dksX8_program_0 2 rfl rfl)
theorem dX8_program_5 : decode cX8_program 5 = .ok (.iload_n 1, 1) := dk_27 (dk_at dksX8_program_0 5 rfl rfl)
theorem dX8_program_6 : decode cX8_program 6 = .ok (.iconst 0, 1) := dk_3 (dk_at dksX8_program_0 6 rfl rfl)
theorem dX8_program_7 : decode cX8_program 7 = .ok (.bipush 11, 2) := dk_16 11 (dk_at dksX8_program_0 7 rfl rfl)
theorem dX8_program_9 : decode cX8_program 9 = .ok (.invokestatic 149, 3) := dk_184 0 149 (dk_at dksX8_program_0 9 rfl rfl)
theorem dX8_program_12 : decode cX8_program 12 = .ok (.ifCond .eq 12, 3) := dk_153 0 12 (dk_at dksX8_program_0 12 rfl rfl)
theorem dX8_program_15 : decode cX8_program 15 = .ok (.aload_n 0, 1) := dk_42 (dk_at dksX8_program_0 15 rfl rfl)
theorem dX8_program_16 : decode cX8_program 16 = .ok (.iload 4, 2) := dk_21 4 (dk_at dksX8_program_0 16 rfl rfl)
theorem dX8_program_18 : decode cX8_program 18 = .ok (.invokevirtual 323, 3) := dk_182 1 67 (dk_at dksX8_program_0 18 rfl rfl)
theorem dX8_program_21 : decode cX8_program 21 = .ok (.ifCond .ne 9, 3) := dk_154 0 9 (dk_at dksX8_program_0 21 rfl rfl)
theorem dX8_program_24 : decode cX8_program 24 = .ok (.aload_n 0, 1) := dk_42 (dk_at dksX8_program_1 0 rfl rfl)
theorem dX8_program_25 : decode cX8_program 25 = .ok (.iconst 1, 1) := dk_4 (dk_at dksX8_program_1 1 rfl rfl)
theorem dX8_program_26 : decode cX8_program 26 = .ok (.invokevirtual 326, 3) := dk_182 1 70 (dk_at dksX8_program_1 2 rfl rfl)
theorem dX8_program_29 : decode cX8_program 29 = .ok (.ireturn, 1) := dk_172 (dk_at dksX8_program_1 5 rfl rfl)
theorem dX8_program_30 : decode cX8_program 30 = .ok (.iload_n 2, 1) := dk_28 (dk_at dksX8_program_1 6 rfl rfl)
theorem dX8_program_31 : decode cX8_program 31 = .ok (.iconst 0, 1) := dk_3 (dk_at dksX8_program_1 7 rfl rfl)
theorem dX8_program_32 : decode cX8_program 32 = .ok (.iconst 3, 1) := dk_6 (dk_at dksX8_program_1 8 rfl rfl)
theorem dX8_program_33 : decode cX8_program 33 = .ok (.invokestatic 149, 3) := dk_184 0 149 (dk_at dksX8_program_1 9 rfl rfl)
theorem dX8_program_36 : decode cX8_program 36 = .ok (.ifCond .eq 12, 3) := dk_153 0 12 (dk_at dksX8_program_1 12 rfl rfl)
theorem dX8_program_39 : decode cX8_program 39 = .ok (.iload_n 3, 1) := dk_29 (dk_at dksX8_program_1 15 rfl rfl)
theorem dX8_program_40 : decode cX8_program 40 = .ok (.iconst 0, 1) := dk_3 (dk_at dksX8_program_1 16 rfl rfl)
theorem dX8_program_41 : decode cX8_program 41 = .ok (.iconst 3, 1) := dk_6 (dk_at dksX8_program_1 17 rfl rfl)
theorem dX8_program_42 : decode cX8_program 42 = .ok (.invokestatic 149, 3) := dk_184 0 149 (dk_at dksX8_program_1 18 rfl rfl)
theorem dX8_program_45 : decode cX8_program 45 = .ok (.ifCond .ne 9, 3) := dk_154 0 9 (dk_at dksX8_program_1 21 rfl rfl)
theorem dX8_program_48 : decode cX8_program 48 = .ok (.aload_n 0, 1) := dk_42 (dk_at dksX8_program_2 0 rfl rfl)
theorem dX8_program_49 : decode cX8_program 49 = .ok (.iconst 2, 1) := dk_5 (dk_at dksX8_program_2 1 rfl rfl)
theorem dX8_program_50 : decode cX8_program 50 = .ok (.invokevirtual 326, 3) := dk_182 1 70 (dk_at dksX8_program_2 2 rfl rfl)
theorem dX8_program_53 : decode cX8_program 53 = .ok (.ireturn, 1) := dk_172 (dk_at dksX8_program_2 5 rfl rfl)
theorem dX8_program_54 : decode cX8_program 54 = .ok (.aload_n 0, 1) := dk_42 (dk_at dksX8_program_2 6 rfl rfl)
theorem dX8_program_55 : decode cX8_program 55 = .ok (.getfield 27, 3) := dk_180 0 27 (dk_at dksX8_program_2 7 rfl rfl)
theorem dX8_program_58 : decode cX8_program 58 = .ok (.iload_n 1, 1) := dk_27 (dk_at dksX8_program_2 10 rfl rfl)
theorem dX8_program_59 : decode cX8_program 59 = .ok (.iload_n 2, 1) := dk_28 (dk_at dksX8_program_2 11 rfl rfl)
theorem dX8_program_60 : decode cX8_program 60 = .ok (.iastore, 1) := dk_79 (dk_at dksX8_program_2 12 rfl rfl)
theorem dX8_program_61 : decode cX8_program 61 = .ok (.aload_n 0, 1) := dk_42 (dk_at dksX8_program_2 13 rfl rfl)
theorem dX8_program_62 : decode cX8_program 62 = .ok (.getfield 30, 3) := dk_180 0 30 (dk_at dksX8_program_2 14 rfl rfl)
theorem dX8_program_65 : decode cX8_program 65 = .ok (.iload_n 1, 1) := dk_27 (dk_at dksX8_program_2 17 rfl rfl)
theorem dX8_program_66 : decode cX8_program 66 = .ok (.iload_n 3, 1) := dk_29 (dk_at dksX8_program_2 18 rfl rfl)
theorem dX8_program_67 : decode cX8_program 67 = .ok (.iastore, 1) := dk_79 (dk_at dksX8_program_2 19 rfl rfl)
theorem dX8_program_68 : decode cX8_program 68 = .ok (.aload_n 0, 1) := dk_42 (dk_at dksX8_program_2 20 rfl rfl)
theorem dX8_program_69 : decode cX8_program 69 = .ok (.getfield 33, 3) := dk_180 0 33 (dk_at dksX8_program_2 21 rfl rfl)
theorem dX8_program_72 : decode cX8_program 72 = .ok (.iload_n 1, 1) := dk_27 (dk_at dksX8_program_3 0 rfl rfl)
theorem dX8_program_73 : decode cX8_program 73 = .ok (.iload 4, 2) := dk_21 4 (dk_at dksX8_program_3 1 rfl rfl)
theorem dX8_program_75 : decode cX8_program 75 = .ok (.iastore, 1) := dk_79 (dk_at dksX8_program_3 3 rfl rfl)
theorem dX8_program_76 : decode cX8_program 76 = .ok (.aload_n 0, 1) := dk_42 (dk_at dksX8_program_3 4 rfl rfl)
theorem dX8_program_77 : decode cX8_program 77 = .ok (.invokevirtual 329, 3) := dk_182 1 73 (dk_at dksX8_program_3 5 rfl rfl)
theorem dX8_program_80 : decode cX8_program 80 = .ok (.ireturn, 1) := dk_172 (dk_at dksX8_program_3 8 rfl rfl)
abbrev cX8_seen : ByteArray := prog_14_method_50_code
def yX8_seen : MethodName := ⟨RX8, "seen", "(IIII)I"⟩
def dkwX8_seen_5 : List UInt8 := [180, 1, 37, 182, 1, 46, 172]
abbrev dktX8_seen_5 : List UInt8 := dkwX8_seen_5 ++ []
def dkwX8_seen_4 : List UInt8 := [79, 42, 180, 0, 45, 42, 180, 1, 37, 21, 4, 79, 42, 89, 180, 1, 37, 4, 96, 181, 1, 37, 42, 42]
abbrev dktX8_seen_4 : List UInt8 := dkwX8_seen_4 ++ dktX8_seen_5
def dkwX8_seen_3 : List UInt8 := [180, 1, 37, 27, 79, 42, 180, 0, 39, 42, 180, 1, 37, 28, 79, 42, 180, 0, 42, 42, 180, 1, 37, 29]
abbrev dktX8_seen_3 : List UInt8 := dkwX8_seen_3 ++ dktX8_seen_4
def dkwX8_seen_2 : List UInt8 := [182, 1, 27, 172, 42, 180, 1, 37, 16, 24, 160, 0, 9, 42, 6, 182, 1, 27, 172, 42, 180, 0, 36, 42]
abbrev dktX8_seen_2 : List UInt8 := dkwX8_seen_2 ++ dktX8_seen_3
def dkwX8_seen_1 : List UInt8 := [19, 1, 86, 184, 0, 149, 153, 0, 15, 21, 4, 3, 17, 3, 231, 184, 0, 149, 154, 0, 9, 42, 5]
abbrev dktX8_seen_1 : List UInt8 := dkwX8_seen_1 ++ dktX8_seen_2
def dkwX8_seen_0 : List UInt8 := [42, 3, 181, 0, 73, 42, 27, 28, 182, 1, 82, 154, 0, 9, 42, 4, 182, 1, 27, 172, 29, 3]
abbrev dktX8_seen_0 : List UInt8 := dkwX8_seen_0 ++ dktX8_seen_1
theorem dksX8_seen_0 : cX8_seen.data.toList.drop 0 = dktX8_seen_0 := by decide +kernel
theorem dksX8_seen_1 : cX8_seen.data.toList.drop 22 = dktX8_seen_1 := dk_seg dksX8_seen_0 22 rfl rfl
theorem dksX8_seen_2 : cX8_seen.data.toList.drop 45 = dktX8_seen_2 := dk_seg dksX8_seen_1 23 rfl rfl
theorem dksX8_seen_3 : cX8_seen.data.toList.drop 69 = dktX8_seen_3 := dk_seg dksX8_seen_2 24 rfl rfl
theorem dksX8_seen_4 : cX8_seen.data.toList.drop 93 = dktX8_seen_4 := dk_seg dksX8_seen_3 24 rfl rfl
theorem dksX8_seen_5 : cX8_seen.data.toList.drop 117 = dktX8_seen_5 := dk_seg dksX8_seen_4 24 rfl rfl
theorem dX8_seen_0 : decode cX8_seen 0 = .ok (.aload_n 0, 1) := dk_42 (dk_at dksX8_seen_0 0 rfl rfl)
theorem dX8_seen_1 : decode cX8_seen 1 = .ok (.iconst 0, 1) := dk_3 (dk_at dksX8_seen_0 1 rfl rfl)
theorem dX8_seen_2 : decode cX8_seen 2 = .ok (.putfield 73, 3) := dk_181 0 73 (dk_at dksX8_seen_0 2 rfl rfl)
theorem dX8_seen_5 : decode cX8_seen 5 = .ok (.aload_n 0, 1) := dk_42 (dk_at dksX8_seen_0 5 rfl rfl)
theorem dX8_seen_6 : decode cX8_seen 6 = .ok (.iload_n 1, 1) := dk_27 (dk_at dksX8_seen_0 6 rfl rfl)
theorem dX8_seen_7 : decode cX8_seen 7 = .ok (.iload_n 2, 1) := dk_28 (dk_at dksX8_seen_0 7 rfl rfl)
theorem dX8_seen_8 : decode cX8_seen 8 = .ok (.invokevirtual 338, 3) := dk_182 1 82 (dk_at dksX8_seen_0 8 rfl rfl)
theorem dX8_seen_11 : decode cX8_seen 11 = .ok (.ifCond .ne 9, 3) := dk_154 0 9 (dk_at dksX8_seen_0 11 rfl rfl)
theorem dX8_seen_14 : decode cX8_seen 14 = .ok (.aload_n 0, 1) := dk_42 (dk_at dksX8_seen_0 14 rfl rfl)
theorem dX8_seen_15 : decode cX8_seen 15 = .ok (.iconst 1, 1) := dk_4 (dk_at dksX8_seen_0 15 rfl rfl)
theorem dX8_seen_16 : decode cX8_seen 16 = .ok (.invokevirtual 283, 3) := dk_182 1 27 (dk_at dksX8_seen_0 16 rfl rfl)
theorem dX8_seen_19 : decode cX8_seen 19 = .ok (.ireturn, 1) := dk_172 (dk_at dksX8_seen_0 19 rfl rfl)
theorem dX8_seen_20 : decode cX8_seen 20 = .ok (.iload_n 3, 1) := dk_29 (dk_at dksX8_seen_0 20 rfl rfl)
theorem dX8_seen_21 : decode cX8_seen 21 = .ok (.iconst 0, 1) := dk_3 (dk_at dksX8_seen_0 21 rfl rfl)
theorem dX8_seen_22 : decode cX8_seen 22 = .ok (.ldc_w 342, 3) := dk_19 1 86 (dk_at dksX8_seen_1 0 rfl rfl)
theorem dX8_seen_25 : decode cX8_seen 25 = .ok (.invokestatic 149, 3) := dk_184 0 149 (dk_at dksX8_seen_1 3 rfl rfl)
theorem dX8_seen_28 : decode cX8_seen 28 = .ok (.ifCond .eq 15, 3) := dk_153 0 15 (dk_at dksX8_seen_1 6 rfl rfl)
theorem dX8_seen_31 : decode cX8_seen 31 = .ok (.iload 4, 2) := dk_21 4 (dk_at dksX8_seen_1 9 rfl rfl)
theorem dX8_seen_33 : decode cX8_seen 33 = .ok (.iconst 0, 1) := dk_3 (dk_at dksX8_seen_1 11 rfl rfl)
theorem dX8_seen_34 : decode cX8_seen 34 = .ok (.sipush 999, 3) := dk_17 3 231 (dk_at dksX8_seen_1 12 rfl rfl)
theorem dX8_seen_37 : decode cX8_seen 37 = .ok (.invokestatic 149, 3) := dk_184 0 149 (dk_at dksX8_seen_1 15 rfl rfl)
theorem dX8_seen_40 : decode cX8_seen 40 = .ok (.ifCond .ne 9, 3) := dk_154 0 9 (dk_at dksX8_seen_1 18 rfl rfl)
theorem dX8_seen_43 : decode cX8_seen 43 = .ok (.aload_n 0, 1) := dk_42 (dk_at dksX8_seen_1 21 rfl rfl)
theorem dX8_seen_44 : decode cX8_seen 44 = .ok (.iconst 2, 1) := dk_5 (dk_at dksX8_seen_1 22 rfl rfl)
theorem dX8_seen_45 : decode cX8_seen 45 = .ok (.invokevirtual 283, 3) := dk_182 1 27 (dk_at dksX8_seen_2 0 rfl rfl)
theorem dX8_seen_48 : decode cX8_seen 48 = .ok (.ireturn, 1) := dk_172 (dk_at dksX8_seen_2 3 rfl rfl)
theorem dX8_seen_49 : decode cX8_seen 49 = .ok (.aload_n 0, 1) := dk_42 (dk_at dksX8_seen_2 4 rfl rfl)
theorem dX8_seen_50 : decode cX8_seen 50 = .ok (.getfield 293, 3) := dk_180 1 37 (dk_at dksX8_seen_2 5 rfl rfl)
theorem dX8_seen_53 : decode cX8_seen 53 = .ok (.bipush 24, 2) := dk_16 24 (dk_at dksX8_seen_2 8 rfl rfl)
theorem dX8_seen_55 : decode cX8_seen 55 = .ok (.if_icmp .ne 9, 3) := dk_160 0 9 (dk_at dksX8_seen_2 10 rfl rfl)
theorem dX8_seen_58 : decode cX8_seen 58 = .ok (.aload_n 0, 1) := dk_42 (dk_at dksX8_seen_2 13 rfl rfl)
theorem dX8_seen_59 : decode cX8_seen 59 = .ok (.iconst 3, 1) := dk_6 (dk_at dksX8_seen_2 14 rfl rfl)
theorem dX8_seen_60 : decode cX8_seen 60 = .ok (.invokevirtual 283, 3) := dk_182 1 27 (dk_at dksX8_seen_2 15 rfl rfl)
theorem dX8_seen_63 : decode cX8_seen 63 = .ok (.ireturn, 1) := dk_172 (dk_at dksX8_seen_2 18 rfl rfl)
theorem dX8_seen_64 : decode cX8_seen 64 = .ok (.aload_n 0, 1) := dk_42 (dk_at dksX8_seen_2 19 rfl rfl)
theorem dX8_seen_65 : decode cX8_seen 65 = .ok (.getfield 36, 3) := dk_180 0 36 (dk_at dksX8_seen_2 20 rfl rfl)
theorem dX8_seen_68 : decode cX8_seen 68 = .ok (.aload_n 0, 1) := dk_42 (dk_at dksX8_seen_2 23 rfl rfl)
theorem dX8_seen_69 : decode cX8_seen 69 = .ok (.getfield 293, 3) := dk_180 1 37 (dk_at dksX8_seen_3 0 rfl rfl)
theorem dX8_seen_72 : decode cX8_seen 72 = .ok (.iload_n 1, 1) := dk_27 (dk_at dksX8_seen_3 3 rfl rfl)
theorem dX8_seen_73 : decode cX8_seen 73 = .ok (.iastore, 1) := dk_79 (dk_at dksX8_seen_3 4 rfl rfl)
theorem dX8_seen_74 : decode cX8_seen 74 = .ok (.aload_n 0, 1) := dk_42 (dk_at dksX8_seen_3 5 rfl rfl)
theorem dX8_seen_75 : decode cX8_seen 75 = .ok (.getfield 39, 3) := dk_180 0 39 (dk_at dksX8_seen_3 6 rfl rfl)
theorem dX8_seen_78 : decode cX8_seen 78 = .ok (.aload_n 0, 1) := dk_42 (dk_at dksX8_seen_3 9 rfl rfl)
theorem dX8_seen_79 : decode cX8_seen 79 = .ok (.getfield 293, 3) := dk_180 1 37 (dk_at dksX8_seen_3 10 rfl rfl)
theorem dX8_seen_82 : decode cX8_seen 82 = .ok (.iload_n 2, 1) := dk_28 (dk_at dksX8_seen_3 13 rfl rfl)
theorem dX8_seen_83 : decode cX8_seen 83 = .ok (.iastore, 1) := dk_79 (dk_at dksX8_seen_3 14 rfl rfl)
theorem dX8_seen_84 : decode cX8_seen 84 = .ok (.aload_n 0, 1) := dk_42 (dk_at dksX8_seen_3 15 rfl rfl)
theorem dX8_seen_85 : decode cX8_seen 85 = .ok (.getfield 42, 3) := dk_180 0 42 (dk_at dksX8_seen_3 16 rfl rfl)
theorem dX8_seen_88 : decode cX8_seen 88 = .ok (.aload_n 0, 1) := dk_42 (dk_at dksX8_seen_3 19 rfl rfl)
theorem dX8_seen_89 : decode cX8_seen 89 = .ok (.getfield 293, 3) := dk_180 1 37 (dk_at dksX8_seen_3 20 rfl rfl)
theorem dX8_seen_92 : decode cX8_seen 92 = .ok (.iload_n 3, 1) := dk_29 (dk_at dksX8_seen_3 23 rfl rfl)
theorem dX8_seen_93 : decode cX8_seen 93 = .ok (.iastore, 1) := dk_79 (dk_at dksX8_seen_4 0 rfl rfl)
theorem dX8_seen_94 : decode cX8_seen 94 = .ok (.aload_n 0, 1) := dk_42 (dk_at dksX8_seen_4 1 rfl rfl)
theorem dX8_seen_95 : decode cX8_seen 95 = .ok (.getfield 45, 3) := dk_180 0 45 (dk_at dksX8_seen_4 2 rfl rfl)
theorem dX8_seen_98 : decode cX8_seen 98 = .ok (.aload_n 0, 1) := dk_42 (dk_at dksX8_seen_4 5 rfl rfl)
theorem dX8_seen_99 : decode cX8_seen 99 = .ok (.getfield 293, 3) := dk_180 1 37 (dk_at dksX8_seen_4 6 rfl rfl)
theorem dX8_seen_102 : decode cX8_seen 102 = .ok (.iload 4, 2) := dk_21 4 (dk_at dksX8_seen_4 9 rfl rfl)
theorem dX8_seen_104 : decode cX8_seen 104 = .ok (.iastore, 1) := dk_79 (dk_at dksX8_seen_4 11 rfl rfl)
theorem dX8_seen_105 : decode cX8_seen 105 = .ok (.aload_n 0, 1) := dk_42 (dk_at dksX8_seen_4 12 rfl rfl)
theorem dX8_seen_106 : decode cX8_seen 106 = .ok (.dup, 1) := dk_89 (dk_at dksX8_seen_4 13 rfl rfl)
theorem dX8_seen_107 : decode cX8_seen 107 = .ok (.getfield 293, 3) := dk_180 1 37 (dk_at dksX8_seen_4 14 rfl rfl)
theorem dX8_seen_110 : decode cX8_seen 110 = .ok (.iconst 1, 1) := dk_4 (dk_at dksX8_seen_4 17 rfl rfl)
theorem dX8_seen_111 : decode cX8_seen 111 = .ok (.iadd, 1) := dk_96 (dk_at dksX8_seen_4 18 rfl rfl)
theorem dX8_seen_112 : decode cX8_seen 112 = .ok (.putfield 293, 3) := dk_181 1 37 (dk_at dksX8_seen_4 19 rfl rfl)
theorem dX8_seen_115 : decode cX8_seen 115 = .ok (.aload_n 0, 1) := dk_42 (dk_at dksX8_seen_4 22 rfl rfl)
theorem dX8_seen_116 : decode cX8_seen 116 = .ok (.aload_n 0, 1) := dk_42 (dk_at dksX8_seen_4 23 rfl rfl)
theorem dX8_seen_117 : decode cX8_seen 117 = .ok (.getfield 293, 3) := dk_180 1 37 (dk_at dksX8_seen_5 0 rfl rfl)
theorem dX8_seen_120 : decode cX8_seen 120 = .ok (.invokevirtual 302, 3) := dk_182 1 46 (dk_at dksX8_seen_5 3 rfl rfl)
theorem dX8_seen_123 : decode cX8_seen 123 = .ok (.ireturn, 1) := dk_172 (dk_at dksX8_seen_5 6 rfl rfl)
abbrev cX8_isWhat : ByteArray := prog_14_method_49_code
def yX8_isWhat : MethodName := ⟨RX8, "isWhat", "(II)Z"⟩
def dkwX8_isWhat_1 : List UInt8 := [180, 0, 191, 4, 96, 184, 0, 149, 153, 0, 7, 4, 167, 0, 4, 3, 172]
abbrev dktX8_isWhat_1 : List UInt8 := dkwX8_isWhat_1 ++ []
def dkwX8_isWhat_0 : List UInt8 := [42, 180, 1, 34, 198, 0, 34, 27, 3, 16, 11, 184, 0, 149, 153, 0, 24, 28, 3, 42, 180, 1, 34]
abbrev dktX8_isWhat_0 : List UInt8 := dkwX8_isWhat_0 ++ dktX8_isWhat_1
theorem dksX8_isWhat_0 : cX8_isWhat.data.toList.drop 0 = dktX8_isWhat_0 := by decide +kernel
theorem dksX8_isWhat_1 : cX8_isWhat.data.toList.drop 23 = dktX8_isWhat_1 := dk_seg dksX8_isWhat_0 23 rfl rfl
theorem dX8_isWhat_0 : decode cX8_isWhat 0 = .ok (.aload_n 0, 1) := dk_42 (dk_at dksX8_isWhat_0 0 rfl rfl)
theorem dX8_isWhat_1 : decode cX8_isWhat 1 = .ok (.getfield 290, 3) := dk_180 1 34 (dk_at dksX8_isWhat_0 1 rfl rfl)
theorem dX8_isWhat_4 : decode cX8_isWhat 4 = .ok (.ifnull 34, 3) := dk_198 0 34 (dk_at dksX8_isWhat_0 4 rfl rfl)
theorem dX8_isWhat_7 : decode cX8_isWhat 7 = .ok (.iload_n 1, 1) := dk_27 (dk_at dksX8_isWhat_0 7 rfl rfl)
theorem dX8_isWhat_8 : decode cX8_isWhat 8 = .ok (.iconst 0, 1) := dk_3 (dk_at dksX8_isWhat_0 8 rfl rfl)
theorem dX8_isWhat_9 : decode cX8_isWhat 9 = .ok (.bipush 11, 2) := dk_16 11 (dk_at dksX8_isWhat_0 9 rfl rfl)
theorem dX8_isWhat_11 : decode cX8_isWhat 11 = .ok (.invokestatic 149, 3) := dk_184 0 149 (dk_at dksX8_isWhat_0 11 rfl rfl)
theorem dX8_isWhat_14 : decode cX8_isWhat 14 = .ok (.ifCond .eq 24, 3) := dk_153 0 24 (dk_at dksX8_isWhat_0 14 rfl rfl)
theorem dX8_isWhat_17 : decode cX8_isWhat 17 = .ok (.iload_n 2, 1) := dk_28 (dk_at dksX8_isWhat_0 17 rfl rfl)
theorem dX8_isWhat_18 : decode cX8_isWhat 18 = .ok (.iconst 0, 1) := dk_3 (dk_at dksX8_isWhat_0 18 rfl rfl)
theorem dX8_isWhat_19 : decode cX8_isWhat 19 = .ok (.aload_n 0, 1) := dk_42 (dk_at dksX8_isWhat_0 19 rfl rfl)
theorem dX8_isWhat_20 : decode cX8_isWhat 20 = .ok (.getfield 290, 3) := dk_180 1 34 (dk_at dksX8_isWhat_0 20 rfl rfl)
theorem dX8_isWhat_23 : decode cX8_isWhat 23 = .ok (.getfield 191, 3) := dk_180 0 191 (dk_at dksX8_isWhat_1 0 rfl rfl)
theorem dX8_isWhat_26 : decode cX8_isWhat 26 = .ok (.iconst 1, 1) := dk_4 (dk_at dksX8_isWhat_1 3 rfl rfl)
theorem dX8_isWhat_27 : decode cX8_isWhat 27 = .ok (.iadd, 1) := dk_96 (dk_at dksX8_isWhat_1 4 rfl rfl)
theorem dX8_isWhat_28 : decode cX8_isWhat 28 = .ok (.invokestatic 149, 3) := dk_184 0 149 (dk_at dksX8_isWhat_1 5 rfl rfl)
theorem dX8_isWhat_31 : decode cX8_isWhat 31 = .ok (.ifCond .eq 7, 3) := dk_153 0 7 (dk_at dksX8_isWhat_1 8 rfl rfl)
theorem dX8_isWhat_34 : decode cX8_isWhat 34 = .ok (.iconst 1, 1) := dk_4 (dk_at dksX8_isWhat_1 11 rfl rfl)
theorem dX8_isWhat_35 : decode cX8_isWhat 35 = .ok (.goto 4, 3) := dk_167 0 4 (dk_at dksX8_isWhat_1 12 rfl rfl)
theorem dX8_isWhat_38 : decode cX8_isWhat 38 = .ok (.iconst 0, 1) := dk_3 (dk_at dksX8_isWhat_1 15 rfl rfl)
theorem dX8_isWhat_39 : decode cX8_isWhat 39 = .ok (.ireturn, 1) := dk_172 (dk_at dksX8_isWhat_1 16 rfl rfl)
abbrev cX8_forget : ByteArray := prog_14_method_51_code
def yX8_forget : MethodName := ⟨RX8, "forget", "()I"⟩
def dkwX8_forget_0 : List UInt8 := [42, 3, 181, 0, 73, 42, 180, 1, 37, 60, 42, 3, 181, 1, 37, 27, 172]
abbrev dktX8_forget_0 : List UInt8 := dkwX8_forget_0 ++ []
theorem dksX8_forget_0 : cX8_forget.data.toList.drop 0 = dktX8_forget_0 := by decide +kernel
theorem dX8_forget_0 : decode cX8_forget 0 = .ok (.aload_n 0, 1) := dk_42 (dk_at dksX8_forget_0 0 rfl rfl)
theorem dX8_forget_1 : decode cX8_forget 1 = .ok (.iconst 0, 1) := dk_3 (dk_at dksX8_forget_0 1 rfl rfl)
theorem dX8_forget_2 : decode cX8_forget 2 = .ok (.putfield 73, 3) := dk_181 0 73 (dk_at dksX8_forget_0 2 rfl rfl)
theorem dX8_forget_5 : decode cX8_forget 5 = .ok (.aload_n 0, 1) := dk_42 (dk_at dksX8_forget_0 5 rfl rfl)
theorem dX8_forget_6 : decode cX8_forget 6 = .ok (.getfield 293, 3) := dk_180 1 37 (dk_at dksX8_forget_0 6 rfl rfl)
theorem dX8_forget_9 : decode cX8_forget 9 = .ok (.istore_n 1, 1) := dk_60 (dk_at dksX8_forget_0 9 rfl rfl)
theorem dX8_forget_10 : decode cX8_forget 10 = .ok (.aload_n 0, 1) := dk_42 (dk_at dksX8_forget_0 10 rfl rfl)
theorem dX8_forget_11 : decode cX8_forget 11 = .ok (.iconst 0, 1) := dk_3 (dk_at dksX8_forget_0 11 rfl rfl)
theorem dX8_forget_12 : decode cX8_forget 12 = .ok (.putfield 293, 3) := dk_181 1 37 (dk_at dksX8_forget_0 12 rfl rfl)
theorem dX8_forget_15 : decode cX8_forget 15 = .ok (.iload_n 1, 1) := dk_27 (dk_at dksX8_forget_0 15 rfl rfl)
theorem dX8_forget_16 : decode cX8_forget 16 = .ok (.ireturn, 1) := dk_172 (dk_at dksX8_forget_0 16 rfl rfl)
abbrev cX8_fits : ByteArray := prog_14_method_59_code
def yX8_fits : MethodName := ⟨RX8, "fits", "()I"⟩
def dkwX8_fits_1 : List UInt8 := [182, 1, 104, 182, 1, 46, 172]
abbrev dktX8_fits_1 : List UInt8 := dkwX8_fits_1 ++ []
def dkwX8_fits_0 : List UInt8 := [42, 3, 181, 0, 73, 42, 180, 1, 34, 199, 0, 11, 42, 4, 182, 1, 27, 167, 0, 13, 42, 42, 2, 2]
abbrev dktX8_fits_0 : List UInt8 := dkwX8_fits_0 ++ dktX8_fits_1
theorem dksX8_fits_0 : cX8_fits.data.toList.drop 0 = dktX8_fits_0 := by decide +kernel
theorem dksX8_fits_1 : cX8_fits.data.toList.drop 24 = dktX8_fits_1 := dk_seg dksX8_fits_0 24 rfl rfl
theorem dX8_fits_0 : decode cX8_fits 0 = .ok (.aload_n 0, 1) := dk_42 (dk_at dksX8_fits_0 0 rfl rfl)
theorem dX8_fits_1 : decode cX8_fits 1 = .ok (.iconst 0, 1) := dk_3 (dk_at dksX8_fits_0 1 rfl rfl)
theorem dX8_fits_2 : decode cX8_fits 2 = .ok (.putfield 73, 3) := dk_181 0 73 (dk_at dksX8_fits_0 2 rfl rfl)
theorem dX8_fits_5 : decode cX8_fits 5 = .ok (.aload_n 0, 1) := dk_42 (dk_at dksX8_fits_0 5 rfl rfl)
theorem dX8_fits_6 : decode cX8_fits 6 = .ok (.getfield 290, 3) := dk_180 1 34 (dk_at dksX8_fits_0 6 rfl rfl)
theorem dX8_fits_9 : decode cX8_fits 9 = .ok (.ifnonnull 11, 3) := dk_199 0 11 (dk_at dksX8_fits_0 9 rfl rfl)
theorem dX8_fits_12 : decode cX8_fits 12 = .ok (.aload_n 0, 1) := dk_42 (dk_at dksX8_fits_0 12 rfl rfl)
theorem dX8_fits_13 : decode cX8_fits 13 = .ok (.iconst 1, 1) := dk_4 (dk_at dksX8_fits_0 13 rfl rfl)
theorem dX8_fits_14 : decode cX8_fits 14 = .ok (.invokevirtual 283, 3) := dk_182 1 27 (dk_at dksX8_fits_0 14 rfl rfl)
theorem dX8_fits_17 : decode cX8_fits 17 = .ok (.goto 13, 3) := dk_167 0 13 (dk_at dksX8_fits_0 17 rfl rfl)
theorem dX8_fits_20 : decode cX8_fits 20 = .ok (.aload_n 0, 1) := dk_42 (dk_at dksX8_fits_0 20 rfl rfl)
theorem dX8_fits_21 : decode cX8_fits 21 = .ok (.aload_n 0, 1) := dk_42 (dk_at dksX8_fits_0 21 rfl rfl)
theorem dX8_fits_22 : decode cX8_fits 22 = .ok (.iconst (-1), 1) := dk_2 (dk_at dksX8_fits_0 22 rfl rfl)
theorem dX8_fits_23 : decode cX8_fits 23 = .ok (.iconst (-1), 1) := dk_2 (dk_at dksX8_fits_0 23 rfl rfl)
theorem dX8_fits_24 : decode cX8_fits 24 = .ok (.invokevirtual 360, 3) := dk_182 1 104 (dk_at dksX8_fits_1 0 rfl rfl)
theorem dX8_fits_27 : decode cX8_fits 27 = .ok (.invokevirtual 302, 3) := dk_182 1 46 (dk_at dksX8_fits_1 3 rfl rfl)
theorem dX8_fits_30 : decode cX8_fits 30 = .ok (.ireturn, 1) := dk_172 (dk_at dksX8_fits_1 6 rfl rfl)
abbrev cX8_allFits : ByteArray := prog_14_method_57_code
def yX8_allFits : MethodName := ⟨RX8, "allFits", "(II)I"⟩
def dkwX8_allFits_1 : List UInt8 := [167, 0, 14, 42, 180, 0, 48, 29, 21, 4, 79, 132, 3, 1, 132, 4, 1, 167, 255, 221, 29, 172]
abbrev dktX8_allFits_1 : List UInt8 := dkwX8_allFits_1 ++ []
def dkwX8_allFits_0 : List UInt8 := [3, 62, 3, 54, 4, 21, 4, 16, 100, 162, 0, 34, 42, 21, 4, 27, 28, 182, 1, 101, 154, 0, 6]
abbrev dktX8_allFits_0 : List UInt8 := dkwX8_allFits_0 ++ dktX8_allFits_1
theorem dksX8_allFits_0 : cX8_allFits.data.toList.drop 0 = dktX8_allFits_0 := by decide +kernel
theorem dksX8_allFits_1 : cX8_allFits.data.toList.drop 23 = dktX8_allFits_1 := dk_seg dksX8_allFits_0 23 rfl rfl
theorem dX8_allFits_0 : decode cX8_allFits 0 = .ok (.iconst 0, 1) := dk_3 (dk_at dksX8_allFits_0 0 rfl rfl)
theorem dX8_allFits_1 : decode cX8_allFits 1 = .ok (.istore_n 3, 1) := dk_62 (dk_at dksX8_allFits_0 1 rfl rfl)
theorem dX8_allFits_2 : decode cX8_allFits 2 = .ok (.iconst 0, 1) := dk_3 (dk_at dksX8_allFits_0 2 rfl rfl)
theorem dX8_allFits_3 : decode cX8_allFits 3 = .ok (.istore 4, 2) := dk_54 4 (dk_at dksX8_allFits_0 3 rfl rfl)
theorem dX8_allFits_5 : decode cX8_allFits 5 = .ok (.iload 4, 2) := dk_21 4 (dk_at dksX8_allFits_0 5 rfl rfl)
theorem dX8_allFits_7 : decode cX8_allFits 7 = .ok (.bipush 100, 2) := dk_16 100 (dk_at dksX8_allFits_0 7 rfl rfl)
theorem dX8_allFits_9 : decode cX8_allFits 9 = .ok (.if_icmp .ge 34, 3) := dk_162 0 34 (dk_at dksX8_allFits_0 9 rfl rfl)
theorem dX8_allFits_12 : decode cX8_allFits 12 = .ok (.aload_n 0, 1) := dk_42 (dk_at dksX8_allFits_0 12 rfl rfl)
theorem dX8_allFits_13 : decode cX8_allFits 13 = .ok (.iload 4, 2) := dk_21 4 (dk_at dksX8_allFits_0 13 rfl rfl)
theorem dX8_allFits_15 : decode cX8_allFits 15 = .ok (.iload_n 1, 1) := dk_27 (dk_at dksX8_allFits_0 15 rfl rfl)
theorem dX8_allFits_16 : decode cX8_allFits 16 = .ok (.iload_n 2, 1) := dk_28 (dk_at dksX8_allFits_0 16 rfl rfl)
theorem dX8_allFits_17 : decode cX8_allFits 17 = .ok (.invokevirtual 357, 3) := dk_182 1 101 (dk_at dksX8_allFits_0 17 rfl rfl)
theorem dX8_allFits_20 : decode cX8_allFits 20 = .ok (.ifCond .ne 6, 3) := dk_154 0 6 (dk_at dksX8_allFits_0 20 rfl rfl)
theorem dX8_allFits_23 : decode cX8_allFits 23 = .ok (.goto 14, 3) := dk_167 0 14 (dk_at dksX8_allFits_1 0 rfl rfl)
theorem dX8_allFits_26 : decode cX8_allFits 26 = .ok (.aload_n 0, 1) := dk_42 (dk_at dksX8_allFits_1 3 rfl rfl)
theorem dX8_allFits_27 : decode cX8_allFits 27 = .ok (.getfield 48, 3) := dk_180 0 48 (dk_at dksX8_allFits_1 4 rfl rfl)
theorem dX8_allFits_30 : decode cX8_allFits 30 = .ok (.iload_n 3, 1) := dk_29 (dk_at dksX8_allFits_1 7 rfl rfl)
theorem dX8_allFits_31 : decode cX8_allFits 31 = .ok (.iload 4, 2) := dk_21 4 (dk_at dksX8_allFits_1 8 rfl rfl)
theorem dX8_allFits_33 : decode cX8_allFits 33 = .ok (.iastore, 1) := dk_79 (dk_at dksX8_allFits_1 10 rfl rfl)
theorem dX8_allFits_34 : decode cX8_allFits 34 = .ok (.iinc 3 1, 3) := dk_132 3 1 (dk_at dksX8_allFits_1 11 rfl rfl)
theorem dX8_allFits_37 : decode cX8_allFits 37 = .ok (.iinc 4 1, 3) := dk_132 4 1 (dk_at dksX8_allFits_1 14 rfl rfl)
theorem dX8_allFits_40 : decode cX8_allFits 40 = .ok (.goto (-35), 3) := dk_167 255 221 (dk_at dksX8_allFits_1 17 rfl rfl)
theorem dX8_allFits_43 : decode cX8_allFits 43 = .ok (.iload_n 3, 1) := dk_29 (dk_at dksX8_allFits_1 20 rfl rfl)
theorem dX8_allFits_44 : decode cX8_allFits 44 = .ok (.ireturn, 1) := dk_172 (dk_at dksX8_allFits_1 21 rfl rfl)
abbrev cX8_agrees : ByteArray := prog_14_method_56_code
def yX8_agrees : MethodName := ⟨RX8, "agrees", "(III)Z"⟩
def dkwX8_agrees_5 : List UInt8 := [164, 0, 5, 3, 172, 132, 5, 1, 167, 255, 177, 132, 4, 1, 167, 255, 151, 4, 172]
abbrev dktX8_agrees_5 : List UInt8 := dkwX8_agrees_5 ++ []
def dkwX8_agrees_4 : List UInt8 := [21, 6, 42, 180, 0, 45, 21, 5, 46, 163, 0, 16, 21, 6, 116, 42, 180, 0, 45, 21, 5, 46]
abbrev dktX8_agrees_4 : List UInt8 := dkwX8_agrees_4 ++ dktX8_agrees_5
def dkwX8_agrees_3 : List UInt8 := [180, 0, 21, 42, 180, 0, 39, 21, 5, 46, 184, 1, 98, 42, 180, 0, 42, 21, 5, 46, 100, 54, 6]
abbrev dktX8_agrees_3 : List UInt8 := dkwX8_agrees_3 ++ dktX8_agrees_4
def dkwX8_agrees_2 : List UInt8 := [180, 1, 37, 162, 0, 76, 42, 21, 5, 28, 29, 182, 1, 95, 21, 4, 159, 0, 6, 167, 0, 54, 42]
abbrev dktX8_agrees_2 : List UInt8 := dkwX8_agrees_2 ++ dktX8_agrees_3
def dkwX8_agrees_1 : List UInt8 := [21, 4, 16, 12, 162, 0, 104, 42, 42, 180, 0, 21, 21, 4, 182, 1, 91, 3, 54, 5, 21, 5, 42]
abbrev dktX8_agrees_1 : List UInt8 := dkwX8_agrees_1 ++ dktX8_agrees_2
def dkwX8_agrees_0 : List UInt8 := [42, 42, 180, 0, 21, 27, 16, 25, 108, 27, 8, 108, 8, 112, 27, 8, 112, 182, 1, 87, 3, 54, 4]
abbrev dktX8_agrees_0 : List UInt8 := dkwX8_agrees_0 ++ dktX8_agrees_1
theorem dksX8_agrees_0 : cX8_agrees.data.toList.drop 0 = dktX8_agrees_0 := by decide +kernel
theorem dksX8_agrees_1 : cX8_agrees.data.toList.drop 23 = dktX8_agrees_1 := dk_seg dksX8_agrees_0 23 rfl rfl
theorem dksX8_agrees_2 : cX8_agrees.data.toList.drop 46 = dktX8_agrees_2 := dk_seg dksX8_agrees_1 23 rfl rfl
theorem dksX8_agrees_3 : cX8_agrees.data.toList.drop 69 = dktX8_agrees_3 := dk_seg dksX8_agrees_2 23 rfl rfl
theorem dksX8_agrees_4 : cX8_agrees.data.toList.drop 92 = dktX8_agrees_4 := dk_seg dksX8_agrees_3 23 rfl rfl
theorem dksX8_agrees_5 : cX8_agrees.data.toList.drop 114 = dktX8_agrees_5 := dk_seg dksX8_agrees_4 22 rfl rfl
theorem dX8_agrees_0 : decode cX8_agrees 0 = .ok (.aload_n 0, 1) := dk_42 (dk_at dksX8_agrees_0 0 rfl rfl)
theorem dX8_agrees_1 : decode cX8_agrees 1 = .ok (.aload_n 0, 1) := dk_42 (dk_at dksX8_agrees_0 1 rfl rfl)
theorem dX8_agrees_2 : decode cX8_agrees 2 = .ok (.getfield 21, 3) := dk_180 0 21 (dk_at dksX8_agrees_0 2 rfl rfl)
theorem dX8_agrees_5 : decode cX8_agrees 5 = .ok (.iload_n 1, 1) := dk_27 (dk_at dksX8_agrees_0 5 rfl rfl)
theorem dX8_agrees_6 : decode cX8_agrees 6 = .ok (.bipush 25, 2) := dk_16 25 (dk_at dksX8_agrees_0 6 rfl rfl)
theorem dX8_agrees_8 : decode cX8_agrees 8 = .ok (.idiv, 1) := dk_108 (dk_at dksX8_agrees_0 8 rfl rfl)
theorem dX8_agrees_9 : decode cX8_agrees 9 = .ok (.iload_n 1, 1) := dk_27 (dk_at dksX8_agrees_0 9 rfl rfl)
theorem dX8_agrees_10 : decode cX8_agrees 10 = .ok (.iconst 5, 1) := dk_8 (dk_at dksX8_agrees_0 10 rfl rfl)
theorem dX8_agrees_11 : decode cX8_agrees 11 = .ok (.idiv, 1) := dk_108 (dk_at dksX8_agrees_0 11 rfl rfl)
theorem dX8_agrees_12 : decode cX8_agrees 12 = .ok (.iconst 5, 1) := dk_8 (dk_at dksX8_agrees_0 12 rfl rfl)
theorem dX8_agrees_13 : decode cX8_agrees 13 = .ok (.irem, 1) := dk_112 (dk_at dksX8_agrees_0 13 rfl rfl)
theorem dX8_agrees_14 : decode cX8_agrees 14 = .ok (.iload_n 1, 1) := dk_27 (dk_at dksX8_agrees_0 14 rfl rfl)
theorem dX8_agrees_15 : decode cX8_agrees 15 = .ok (.iconst 5, 1) := dk_8 (dk_at dksX8_agrees_0 15 rfl rfl)
theorem dX8_agrees_16 : decode cX8_agrees 16 = .ok (.irem, 1) := dk_112 (dk_at dksX8_agrees_0 16 rfl rfl)
theorem dX8_agrees_17 : decode cX8_agrees 17 = .ok (.invokevirtual 343, 3) := dk_182 1 87 (dk_at dksX8_agrees_0 17 rfl rfl)
theorem dX8_agrees_20 : decode cX8_agrees 20 = .ok (.iconst 0, 1) := dk_3 (dk_at dksX8_agrees_0 20 rfl rfl)
theorem dX8_agrees_21 : decode cX8_agrees 21 = .ok (.istore 4, 2) := dk_54 4 (dk_at dksX8_agrees_0 21 rfl rfl)
theorem dX8_agrees_23 : decode cX8_agrees 23 = .ok (.iload 4, 2) := dk_21 4 (dk_at dksX8_agrees_1 0 rfl rfl)
theorem dX8_agrees_25 : decode cX8_agrees 25 = .ok (.bipush 12, 2) := dk_16 12 (dk_at dksX8_agrees_1 2 rfl rfl)
theorem dX8_agrees_27 : decode cX8_agrees 27 = .ok (.if_icmp .ge 104, 3) := dk_162 0 104 (dk_at dksX8_agrees_1 4 rfl rfl)
theorem dX8_agrees_30 : decode cX8_agrees 30 = .ok (.aload_n 0, 1) := dk_42 (dk_at dksX8_agrees_1 7 rfl rfl)
theorem dX8_agrees_31 : decode cX8_agrees 31 = .ok (.aload_n 0, 1) := dk_42 (dk_at dksX8_agrees_1 8 rfl rfl)
theorem dX8_agrees_32 : decode cX8_agrees 32 = .ok (.getfield 21, 3) := dk_180 0 21 (dk_at dksX8_agrees_1 9 rfl rfl)
theorem dX8_agrees_35 : decode cX8_agrees 35 = .ok (.iload 4, 2) := dk_21 4 (dk_at dksX8_agrees_1 12 rfl rfl)
theorem dX8_agrees_37 : decode cX8_agrees 37 = .ok (.invokevirtual 347, 3) := dk_182 1 91 (dk_at dksX8_agrees_1 14 rfl rfl)
theorem dX8_agrees_40 : decode cX8_agrees 40 = .ok (.iconst 0, 1) := dk_3 (dk_at dksX8_agrees_1 17 rfl rfl)
theorem dX8_agrees_41 : decode cX8_agrees 41 = .ok (.istore 5, 2) := dk_54 5 (dk_at dksX8_agrees_1 18 rfl rfl)
theorem dX8_agrees_43 : decode cX8_agrees 43 = .ok (.iload 5, 2) := dk_21 5 (dk_at dksX8_agrees_1 20 rfl rfl)
theorem dX8_agrees_45 : decode cX8_agrees 45 = .ok (.aload_n 0, 1) := dk_42 (dk_at dksX8_agrees_1 22 rfl rfl)
theorem dX8_agrees_46 : decode cX8_agrees 46 = .ok (.getfield 293, 3) := dk_180 1 37 (dk_at dksX8_agrees_2 0 rfl rfl)
theorem dX8_agrees_49 : decode cX8_agrees 49 = .ok (.if_icmp .ge 76, 3) := dk_162 0 76 (dk_at dksX8_agrees_2 3 rfl rfl)
theorem dX8_agrees_52 : decode cX8_agrees 52 = .ok (.aload_n 0, 1) := dk_42 (dk_at dksX8_agrees_2 6 rfl rfl)
theorem dX8_agrees_53 : decode cX8_agrees 53 = .ok (.iload 5, 2) := dk_21 5 (dk_at dksX8_agrees_2 7 rfl rfl)
theorem dX8_agrees_55 : decode cX8_agrees 55 = .ok (.iload_n 2, 1) := dk_28 (dk_at dksX8_agrees_2 9 rfl rfl)
theorem dX8_agrees_56 : decode cX8_agrees 56 = .ok (.iload_n 3, 1) := dk_29 (dk_at dksX8_agrees_2 10 rfl rfl)
theorem dX8_agrees_57 : decode cX8_agrees 57 = .ok (.invokevirtual 351, 3) := dk_182 1 95 (dk_at dksX8_agrees_2 11 rfl rfl)
theorem dX8_agrees_60 : decode cX8_agrees 60 = .ok (.iload 4, 2) := dk_21 4 (dk_at dksX8_agrees_2 14 rfl rfl)
theorem dX8_agrees_62 : decode cX8_agrees 62 = .ok (.if_icmp .eq 6, 3) := dk_159 0 6 (dk_at dksX8_agrees_2 16 rfl rfl)
theorem dX8_agrees_65 : decode cX8_agrees 65 = .ok (.goto 54, 3) := dk_167 0 54 (dk_at dksX8_agrees_2 19 rfl rfl)
theorem dX8_agrees_68 : decode cX8_agrees 68 = .ok (.aload_n 0, 1) := dk_42 (dk_at dksX8_agrees_2 22 rfl rfl)
theorem dX8_agrees_69 : decode cX8_agrees 69 = .ok (.getfield 21, 3) := dk_180 0 21 (dk_at dksX8_agrees_3 0 rfl rfl)
theorem dX8_agrees_72 : decode cX8_agrees 72 = .ok (.aload_n 0, 1) := dk_42 (dk_at dksX8_agrees_3 3 rfl rfl)
theorem dX8_agrees_73 : decode cX8_agrees 73 = .ok (.getfield 39, 3) := dk_180 0 39 (dk_at dksX8_agrees_3 4 rfl rfl)
theorem dX8_agrees_76 : decode cX8_agrees 76 = .ok (.iload 5, 2) := dk_21 5 (dk_at dksX8_agrees_3 7 rfl rfl)
theorem dX8_agrees_78 : decode cX8_agrees 78 = .ok (.iaload, 1) := dk_46 (dk_at dksX8_agrees_3 9 rfl rfl)
theorem dX8_agrees_79 : decode cX8_agrees 79 = .ok (.invokestatic 354, 3) := dk_184 1 98 (dk_at dksX8_agrees_3 10 rfl rfl)
theorem dX8_agrees_82 : decode cX8_agrees 82 = .ok (.aload_n 0, 1) := dk_42 (dk_at dksX8_agrees_3 13 rfl rfl)
theorem dX8_agrees_83 : decode cX8_agrees 83 = .ok (.getfield 42, 3) := dk_180 0 42 (dk_at dksX8_agrees_3 14 rfl rfl)
theorem dX8_agrees_86 : decode cX8_agrees 86 = .ok (.iload 5, 2) := dk_21 5 (dk_at dksX8_agrees_3 17 rfl rfl)
theorem dX8_agrees_88 : decode cX8_agrees 88 = .ok (.iaload, 1) := dk_46 (dk_at dksX8_agrees_3 19 rfl rfl)
theorem dX8_agrees_89 : decode cX8_agrees 89 = .ok (.isub, 1) := dk_100 (dk_at dksX8_agrees_3 20 rfl rfl)
theorem dX8_agrees_90 : decode cX8_agrees 90 = .ok (.istore 6, 2) := dk_54 6 (dk_at dksX8_agrees_3 21 rfl rfl)
theorem dX8_agrees_92 : decode cX8_agrees 92 = .ok (.iload 6, 2) := dk_21 6 (dk_at dksX8_agrees_4 0 rfl rfl)
theorem dX8_agrees_94 : decode cX8_agrees 94 = .ok (.aload_n 0, 1) := dk_42 (dk_at dksX8_agrees_4 2 rfl rfl)
theorem dX8_agrees_95 : decode cX8_agrees 95 = .ok (.getfield 45, 3) := dk_180 0 45 (dk_at dksX8_agrees_4 3 rfl rfl)
theorem dX8_agrees_98 : decode cX8_agrees 98 = .ok (.iload 5, 2) := dk_21 5 (dk_at dksX8_agrees_4 6 rfl rfl)
theorem dX8_agrees_100 : decode cX8_agrees 100 = .ok (.iaload, 1) := dk_46 (dk_at dksX8_agrees_4 8 rfl rfl)
theorem dX8_agrees_101 : decode cX8_agrees 101 = .ok (.if_icmp .gt 16, 3) := dk_163 0 16 (dk_at dksX8_agrees_4 9 rfl rfl)
theorem dX8_agrees_104 : decode cX8_agrees 104 = .ok (.iload 6, 2) := dk_21 6 (dk_at dksX8_agrees_4 12 rfl rfl)
theorem dX8_agrees_106 : decode cX8_agrees 106 = .ok (.ineg, 1) := dk_116 (dk_at dksX8_agrees_4 14 rfl rfl)
theorem dX8_agrees_107 : decode cX8_agrees 107 = .ok (.aload_n 0, 1) := dk_42 (dk_at dksX8_agrees_4 15 rfl rfl)
theorem dX8_agrees_108 : decode cX8_agrees 108 = .ok (.getfield 45, 3) := dk_180 0 45 (dk_at dksX8_agrees_4 16 rfl rfl)
theorem dX8_agrees_111 : decode cX8_agrees 111 = .ok (.iload 5, 2) := dk_21 5 (dk_at dksX8_agrees_4 19 rfl rfl)
theorem dX8_agrees_113 : decode cX8_agrees 113 = .ok (.iaload, 1) := dk_46 (dk_at dksX8_agrees_4 21 rfl rfl)
theorem dX8_agrees_114 : decode cX8_agrees 114 = .ok (.if_icmp .le 5, 3) := dk_164 0 5 (dk_at dksX8_agrees_5 0 rfl rfl)
theorem dX8_agrees_117 : decode cX8_agrees 117 = .ok (.iconst 0, 1) := dk_3 (dk_at dksX8_agrees_5 3 rfl rfl)
theorem dX8_agrees_118 : decode cX8_agrees 118 = .ok (.ireturn, 1) := dk_172 (dk_at dksX8_agrees_5 4 rfl rfl)
theorem dX8_agrees_119 : decode cX8_agrees 119 = .ok (.iinc 5 1, 3) := dk_132 5 1 (dk_at dksX8_agrees_5 5 rfl rfl)
theorem dX8_agrees_122 : decode cX8_agrees 122 = .ok (.goto (-79), 3) := dk_167 255 177 (dk_at dksX8_agrees_5 8 rfl rfl)
theorem dX8_agrees_125 : decode cX8_agrees 125 = .ok (.iinc 4 1, 3) := dk_132 4 1 (dk_at dksX8_agrees_5 11 rfl rfl)
theorem dX8_agrees_128 : decode cX8_agrees 128 = .ok (.goto (-105), 3) := dk_167 255 151 (dk_at dksX8_agrees_5 14 rfl rfl)
theorem dX8_agrees_131 : decode cX8_agrees 131 = .ok (.iconst 1, 1) := dk_4 (dk_at dksX8_agrees_5 17 rfl rfl)
theorem dX8_agrees_132 : decode cX8_agrees 132 = .ok (.ireturn, 1) := dk_172 (dk_at dksX8_agrees_5 18 rfl rfl)
abbrev cX8_begins : ByteArray := prog_14_method_52_code
def yX8_begins : MethodName := ⟨RX8, "begins", "([IIII)V"⟩
def dkwX8_begins_3 : List UInt8 := [180, 1, 34, 180, 0, 183, 104, 7, 108, 79, 43, 16, 20, 42, 180, 1, 34, 180, 0, 186, 5, 108, 79, 177]
abbrev dktX8_begins_3 : List UInt8 := dkwX8_begins_3 ++ []
def dkwX8_begins_2 : List UInt8 := [180, 1, 22, 21, 5, 46, 104, 79, 132, 5, 1, 167, 255, 222, 43, 16, 25, 28, 79, 43, 16, 24, 29, 42]
abbrev dktX8_begins_2 : List UInt8 := dkwX8_begins_2 ++ dktX8_begins_3
def dkwX8_begins_1 : List UInt8 := [21, 5, 42, 180, 1, 34, 180, 0, 191, 162, 0, 28, 43, 3, 21, 5, 96, 21, 4, 42, 180, 1, 34]
abbrev dktX8_begins_1 : List UInt8 := dkwX8_begins_1 ++ dktX8_begins_2
def dkwX8_begins_0 : List UInt8 := [3, 54, 5, 21, 5, 16, 37, 162, 0, 14, 43, 21, 5, 3, 79, 132, 5, 1, 167, 255, 241, 3, 54, 5]
abbrev dktX8_begins_0 : List UInt8 := dkwX8_begins_0 ++ dktX8_begins_1
theorem dksX8_begins_0 : cX8_begins.data.toList.drop 0 = dktX8_begins_0 := by decide +kernel
theorem dksX8_begins_1 : cX8_begins.data.toList.drop 24 = dktX8_begins_1 := dk_seg dksX8_begins_0 24 rfl rfl
theorem dksX8_begins_2 : cX8_begins.data.toList.drop 47 = dktX8_begins_2 := dk_seg dksX8_begins_1 23 rfl rfl
theorem dksX8_begins_3 : cX8_begins.data.toList.drop 71 = dktX8_begins_3 := dk_seg dksX8_begins_2 24 rfl rfl
theorem dX8_begins_0 : decode cX8_begins 0 = .ok (.iconst 0, 1) := dk_3 (dk_at dksX8_begins_0 0 rfl rfl)
theorem dX8_begins_1 : decode cX8_begins 1 = .ok (.istore 5, 2) := dk_54 5 (dk_at dksX8_begins_0 1 rfl rfl)
theorem dX8_begins_3 : decode cX8_begins 3 = .ok (.iload 5, 2) := dk_21 5 (dk_at dksX8_begins_0 3 rfl rfl)
theorem dX8_begins_5 : decode cX8_begins 5 = .ok (.bipush 37, 2) := dk_16 37 (dk_at dksX8_begins_0 5 rfl rfl)
theorem dX8_begins_7 : decode cX8_begins 7 = .ok (.if_icmp .ge 14, 3) := dk_162 0 14 (dk_at dksX8_begins_0 7 rfl rfl)
theorem dX8_begins_10 : decode cX8_begins 10 = .ok (.aload_n 1, 1) := dk_43 (dk_at dksX8_begins_0 10 rfl rfl)
theorem dX8_begins_11 : decode cX8_begins 11 = .ok (.iload 5, 2) := dk_21 5 (dk_at dksX8_begins_0 11 rfl rfl)
theorem dX8_begins_13 : decode cX8_begins 13 = .ok (.iconst 0, 1) := dk_3 (dk_at dksX8_begins_0 13 rfl rfl)
theorem dX8_begins_14 : decode cX8_begins 14 = .ok (.iastore, 1) := dk_79 (dk_at dksX8_begins_0 14 rfl rfl)
theorem dX8_begins_15 : decode cX8_begins 15 = .ok (.iinc 5 1, 3) := dk_132 5 1 (dk_at dksX8_begins_0 15 rfl rfl)
theorem dX8_begins_18 : decode cX8_begins 18 = .ok (.goto (-15), 3) := dk_167 255 241 (dk_at dksX8_begins_0 18 rfl rfl)
theorem dX8_begins_21 : decode cX8_begins 21 = .ok (.iconst 0, 1) := dk_3 (dk_at dksX8_begins_0 21 rfl rfl)
theorem dX8_begins_22 : decode cX8_begins 22 = .ok (.istore 5, 2) := dk_54 5 (dk_at dksX8_begins_0 22 rfl rfl)
theorem dX8_begins_24 : decode cX8_begins 24 = .ok (.iload 5, 2) := dk_21 5 (dk_at dksX8_begins_1 0 rfl rfl)
theorem dX8_begins_26 : decode cX8_begins 26 = .ok (.aload_n 0, 1) := dk_42 (dk_at dksX8_begins_1 2 rfl rfl)
theorem dX8_begins_27 : decode cX8_begins 27 = .ok (.getfield 290, 3) := dk_180 1 34 (dk_at dksX8_begins_1 3 rfl rfl)
theorem dX8_begins_30 : decode cX8_begins 30 = .ok (.getfield 191, 3) := dk_180 0 191 (dk_at dksX8_begins_1 6 rfl rfl)
theorem dX8_begins_33 : decode cX8_begins 33 = .ok (.if_icmp .ge 28, 3) := dk_162 0 28 (dk_at dksX8_begins_1 9 rfl rfl)
theorem dX8_begins_36 : decode cX8_begins 36 = .ok (.aload_n 1, 1) := dk_43 (dk_at dksX8_begins_1 12 rfl rfl)
theorem dX8_begins_37 : decode cX8_begins 37 = .ok (.iconst 0, 1) := dk_3 (dk_at dksX8_begins_1 13 rfl rfl)
theorem dX8_begins_38 : decode cX8_begins 38 = .ok (.iload 5, 2) := dk_21 5 (dk_at dksX8_begins_1 14 rfl rfl)
theorem dX8_begins_40 : decode cX8_begins 40 = .ok (.iadd, 1) := dk_96 (dk_at dksX8_begins_1 16 rfl rfl)
theorem dX8_begins_41 : decode cX8_begins 41 = .ok (.iload 4, 2) := dk_21 4 (dk_at dksX8_begins_1 17 rfl rfl)
theorem dX8_begins_43 : decode cX8_begins 43 = .ok (.aload_n 0, 1) := dk_42 (dk_at dksX8_begins_1 19 rfl rfl)
theorem dX8_begins_44 : decode cX8_begins 44 = .ok (.getfield 290, 3) := dk_180 1 34 (dk_at dksX8_begins_1 20 rfl rfl)
theorem dX8_begins_47 : decode cX8_begins 47 = .ok (.getfield 278, 3) := dk_180 1 22 (dk_at dksX8_begins_2 0 rfl rfl)
theorem dX8_begins_50 : decode cX8_begins 50 = .ok (.iload 5, 2) := dk_21 5 (dk_at dksX8_begins_2 3 rfl rfl)
theorem dX8_begins_52 : decode cX8_begins 52 = .ok (.iaload, 1) := dk_46 (dk_at dksX8_begins_2 5 rfl rfl)
theorem dX8_begins_53 : decode cX8_begins 53 = .ok (.imul, 1) := dk_104 (dk_at dksX8_begins_2 6 rfl rfl)
theorem dX8_begins_54 : decode cX8_begins 54 = .ok (.iastore, 1) := dk_79 (dk_at dksX8_begins_2 7 rfl rfl)
theorem dX8_begins_55 : decode cX8_begins 55 = .ok (.iinc 5 1, 3) := dk_132 5 1 (dk_at dksX8_begins_2 8 rfl rfl)
theorem dX8_begins_58 : decode cX8_begins 58 = .ok (.goto (-34), 3) := dk_167 255 222 (dk_at dksX8_begins_2 11 rfl rfl)
theorem dX8_begins_61 : decode cX8_begins 61 = .ok (.aload_n 1, 1) := dk_43 (dk_at dksX8_begins_2 14 rfl rfl)
theorem dX8_begins_62 : decode cX8_begins 62 = .ok (.bipush 25, 2) := dk_16 25 (dk_at dksX8_begins_2 15 rfl rfl)
theorem dX8_begins_64 : decode cX8_begins 64 = .ok (.iload_n 2, 1) := dk_28 (dk_at dksX8_begins_2 17 rfl rfl)
theorem dX8_begins_65 : decode cX8_begins 65 = .ok (.iastore, 1) := dk_79 (dk_at dksX8_begins_2 18 rfl rfl)
theorem dX8_begins_66 : decode cX8_begins 66 = .ok (.aload_n 1, 1) := dk_43 (dk_at dksX8_begins_2 19 rfl rfl)
theorem dX8_begins_67 : decode cX8_begins 67 = .ok (.bipush 24, 2) := dk_16 24 (dk_at dksX8_begins_2 20 rfl rfl)
theorem dX8_begins_69 : decode cX8_begins 69 = .ok (.iload_n 3, 1) := dk_29 (dk_at dksX8_begins_2 22 rfl rfl)
theorem dX8_begins_70 : decode cX8_begins 70 = .ok (.aload_n 0, 1) := dk_42 (dk_at dksX8_begins_2 23 rfl rfl)
theorem dX8_begins_71 : decode cX8_begins 71 = .ok (.getfield 290, 3) := dk_180 1 34 (dk_at dksX8_begins_3 0 rfl rfl)
theorem dX8_begins_74 : decode cX8_begins 74 = .ok (.getfield 183, 3) := dk_180 0 183 (dk_at dksX8_begins_3 3 rfl rfl)
theorem dX8_begins_77 : decode cX8_begins 77 = .ok (.imul, 1) := dk_104 (dk_at dksX8_begins_3 6 rfl rfl)
theorem dX8_begins_78 : decode cX8_begins 78 = .ok (.iconst 4, 1) := dk_7 (dk_at dksX8_begins_3 7 rfl rfl)
theorem dX8_begins_79 : decode cX8_begins 79 = .ok (.idiv, 1) := dk_108 (dk_at dksX8_begins_3 8 rfl rfl)
theorem dX8_begins_80 : decode cX8_begins 80 = .ok (.iastore, 1) := dk_79 (dk_at dksX8_begins_3 9 rfl rfl)
theorem dX8_begins_81 : decode cX8_begins 81 = .ok (.aload_n 1, 1) := dk_43 (dk_at dksX8_begins_3 10 rfl rfl)
theorem dX8_begins_82 : decode cX8_begins 82 = .ok (.bipush 20, 2) := dk_16 20 (dk_at dksX8_begins_3 11 rfl rfl)
theorem dX8_begins_84 : decode cX8_begins 84 = .ok (.aload_n 0, 1) := dk_42 (dk_at dksX8_begins_3 13 rfl rfl)
theorem dX8_begins_85 : decode cX8_begins 85 = .ok (.getfield 290, 3) := dk_180 1 34 (dk_at dksX8_begins_3 14 rfl rfl)
theorem dX8_begins_88 : decode cX8_begins 88 = .ok (.getfield 186, 3) := dk_180 0 186 (dk_at dksX8_begins_3 17 rfl rfl)
theorem dX8_begins_91 : decode cX8_begins 91 = .ok (.iconst 2, 1) := dk_5 (dk_at dksX8_begins_3 20 rfl rfl)
theorem dX8_begins_92 : decode cX8_begins 92 = .ok (.idiv, 1) := dk_108 (dk_at dksX8_begins_3 21 rfl rfl)
theorem dX8_begins_93 : decode cX8_begins 93 = .ok (.iastore, 1) := dk_79 (dk_at dksX8_begins_3 22 rfl rfl)
theorem dX8_begins_94 : decode cX8_begins 94 = .ok (.return_, 1) := dk_177 (dk_at dksX8_begins_3 23 rfl rfl)
abbrev cX8_byProgram : ByteArray := prog_14_method_53_code
def yX8_byProgram : MethodName := ⟨RX8, "byProgram", "([II)V"⟩
def dkwX8_byProgram_1 : List UInt8 := [180, 0, 33, 28, 46, 79, 42, 43, 182, 1, 76, 177]
abbrev dktX8_byProgram_1 : List UInt8 := dkwX8_byProgram_1 ++ []
def dkwX8_byProgram_0 : List UInt8 := [43, 16, 34, 42, 180, 0, 27, 28, 46, 79, 43, 16, 35, 42, 180, 0, 30, 28, 46, 79, 43, 16, 36, 42]
abbrev dktX8_byProgram_0 : List UInt8 := dkwX8_byProgram_0 ++ dktX8_byProgram_1
theorem dksX8_byProgram_0 : cX8_byProgram.data.toList.drop 0 = dktX8_byProgram_0 := by decide +kernel
theorem dksX8_byProgram_1 : cX8_byProgram.data.toList.drop 24 = dktX8_byProgram_1 := dk_seg dksX8_byProgram_0 24 rfl rfl
theorem dX8_byProgram_0 : decode cX8_byProgram 0 = .ok (.aload_n 1, 1) := dk_43 (dk_at dksX8_byProgram_0 0 rfl rfl)
theorem dX8_byProgram_1 : decode cX8_byProgram 1 = .ok (.bipush 34, 2) := dk_16 34 (dk_at dksX8_byProgram_0 1 rfl rfl)
theorem dX8_byProgram_3 : decode cX8_byProgram 3 = .ok (.aload_n 0, 1) := dk_42 (dk_at dksX8_byProgram_0 3 rfl rfl)
theorem dX8_byProgram_4 : decode cX8_byProgram 4 = .ok (.getfield 27, 3) := dk_180 0 27 (dk_at dksX8_byProgram_0 4 rfl rfl)
theorem dX8_byProgram_7 : decode cX8_byProgram 7 = .ok (.iload_n 2, 1) := dk_28 (dk_at dksX8_byProgram_0 7 rfl rfl)
theorem dX8_byProgram_8 : decode cX8_byProgram 8 = .ok (.iaload, 1) := dk_46 (dk_at dksX8_byProgram_0 8 rfl rfl)
theorem dX8_byProgram_9 : decode cX8_byProgram 9 = .ok (.iastore, 1) := dk_79 (dk_at dksX8_byProgram_0 9 rfl rfl)
theorem dX8_byProgram_10 : decode cX8_byProgram 10 = .ok (.aload_n 1, 1) := dk_43 (dk_at dksX8_byProgram_0 10 rfl rfl)
theorem dX8_byProgram_11 : decode cX8_byProgram 11 = .ok (.bipush 35, 2) := dk_16 35 (dk_at dksX8_byProgram_0 11 rfl rfl)
theorem dX8_byProgram_13 : decode cX8_byProgram 13 = .ok (.aload_n 0, 1) := dk_42 (dk_at dksX8_byProgram_0 13 rfl rfl)
theorem dX8_byProgram_14 : decode cX8_byProgram 14 = .ok (.getfield 30, 3) := dk_180 0 30 (dk_at dksX8_byProgram_0 14 rfl rfl)
theorem dX8_byProgram_17 : decode cX8_byProgram 17 = .ok (.iload_n 2, 1) := dk_28 (dk_at dksX8_byProgram_0 17 rfl rfl)
theorem dX8_byProgram_18 : decode cX8_byProgram 18 = .ok (.iaload, 1) := dk_46 (dk_at dksX8_byProgram_0 18 rfl rfl)
theorem dX8_byProgram_19 : decode cX8_byProgram 19 = .ok (.iastore, 1) := dk_79 (dk_at dksX8_byProgram_0 19 rfl rfl)
theorem dX8_byProgram_20 : decode cX8_byProgram 20 = .ok (.aload_n 1, 1) := dk_43 (dk_at dksX8_byProgram_0 20 rfl rfl)
theorem dX8_byProgram_21 : decode cX8_byProgram 21 = .ok (.bipush 36, 2) := dk_16 36 (dk_at dksX8_byProgram_0 21 rfl rfl)
theorem dX8_byProgram_23 : decode cX8_byProgram 23 = .ok (.aload_n 0, 1) := dk_42 (dk_at dksX8_byProgram_0 23 rfl rfl)
theorem dX8_byProgram_24 : decode cX8_byProgram 24 = .ok (.getfield 33, 3) := dk_180 0 33 (dk_at dksX8_byProgram_1 0 rfl rfl)
theorem dX8_byProgram_27 : decode cX8_byProgram 27 = .ok (.iload_n 2, 1) := dk_28 (dk_at dksX8_byProgram_1 3 rfl rfl)
theorem dX8_byProgram_28 : decode cX8_byProgram 28 = .ok (.iaload, 1) := dk_46 (dk_at dksX8_byProgram_1 4 rfl rfl)
theorem dX8_byProgram_29 : decode cX8_byProgram 29 = .ok (.iastore, 1) := dk_79 (dk_at dksX8_byProgram_1 5 rfl rfl)
theorem dX8_byProgram_30 : decode cX8_byProgram 30 = .ok (.aload_n 0, 1) := dk_42 (dk_at dksX8_byProgram_1 6 rfl rfl)
theorem dX8_byProgram_31 : decode cX8_byProgram 31 = .ok (.aload_n 1, 1) := dk_43 (dk_at dksX8_byProgram_1 7 rfl rfl)
theorem dX8_byProgram_32 : decode cX8_byProgram 32 = .ok (.invokevirtual 332, 3) := dk_182 1 76 (dk_at dksX8_byProgram_1 8 rfl rfl)
theorem dX8_byProgram_35 : decode cX8_byProgram 35 = .ok (.return_, 1) := dk_177 (dk_at dksX8_byProgram_1 11 rfl rfl)
abbrev cX8_hourOf : ByteArray := prog_14_method_55_code
def yX8_hourOf : MethodName := ⟨RX8, "hourOf", "(III)I"⟩
def dkwX8_hourOf_1 : List UInt8 := [160, 0, 7, 29, 167, 0, 15, 21, 4, 29, 160, 0, 7, 28, 167, 0, 5, 21, 4, 172]
abbrev dktX8_hourOf_1 : List UInt8 := dkwX8_hourOf_1 ++ []
def dkwX8_hourOf_0 : List UInt8 := [42, 180, 0, 36, 27, 46, 54, 4, 42, 180, 0, 39, 27, 46, 5, 162, 0, 6, 21, 4, 172, 21, 4, 28]
abbrev dktX8_hourOf_0 : List UInt8 := dkwX8_hourOf_0 ++ dktX8_hourOf_1
theorem dksX8_hourOf_0 : cX8_hourOf.data.toList.drop 0 = dktX8_hourOf_0 := by decide +kernel
theorem dksX8_hourOf_1 : cX8_hourOf.data.toList.drop 24 = dktX8_hourOf_1 := dk_seg dksX8_hourOf_0 24 rfl rfl
theorem dX8_hourOf_0 : decode cX8_hourOf 0 = .ok (.aload_n 0, 1) := dk_42 (dk_at dksX8_hourOf_0 0 rfl rfl)
theorem dX8_hourOf_1 : decode cX8_hourOf 1 = .ok (.getfield 36, 3) := dk_180 0 36 (dk_at dksX8_hourOf_0 1 rfl rfl)
theorem dX8_hourOf_4 : decode cX8_hourOf 4 = .ok (.iload_n 1, 1) := dk_27 (dk_at dksX8_hourOf_0 4 rfl rfl)
theorem dX8_hourOf_5 : decode cX8_hourOf 5 = .ok (.iaload, 1) := dk_46 (dk_at dksX8_hourOf_0 5 rfl rfl)
theorem dX8_hourOf_6 : decode cX8_hourOf 6 = .ok (.istore 4, 2) := dk_54 4 (dk_at dksX8_hourOf_0 6 rfl rfl)
theorem dX8_hourOf_8 : decode cX8_hourOf 8 = .ok (.aload_n 0, 1) := dk_42 (dk_at dksX8_hourOf_0 8 rfl rfl)
theorem dX8_hourOf_9 : decode cX8_hourOf 9 = .ok (.getfield 39, 3) := dk_180 0 39 (dk_at dksX8_hourOf_0 9 rfl rfl)
theorem dX8_hourOf_12 : decode cX8_hourOf 12 = .ok (.iload_n 1, 1) := dk_27 (dk_at dksX8_hourOf_0 12 rfl rfl)
theorem dX8_hourOf_13 : decode cX8_hourOf 13 = .ok (.iaload, 1) := dk_46 (dk_at dksX8_hourOf_0 13 rfl rfl)
theorem dX8_hourOf_14 : decode cX8_hourOf 14 = .ok (.iconst 2, 1) := dk_5 (dk_at dksX8_hourOf_0 14 rfl rfl)
theorem dX8_hourOf_15 : decode cX8_hourOf 15 = .ok (.if_icmp .ge 6, 3) := dk_162 0 6 (dk_at dksX8_hourOf_0 15 rfl rfl)
theorem dX8_hourOf_18 : decode cX8_hourOf 18 = .ok (.iload 4, 2) := dk_21 4 (dk_at dksX8_hourOf_0 18 rfl rfl)
theorem dX8_hourOf_20 : decode cX8_hourOf 20 = .ok (.ireturn, 1) := dk_172 (dk_at dksX8_hourOf_0 20 rfl rfl)
theorem dX8_hourOf_21 : decode cX8_hourOf 21 = .ok (.iload 4, 2) := dk_21 4 (dk_at dksX8_hourOf_0 21 rfl rfl)
theorem dX8_hourOf_23 : decode cX8_hourOf 23 = .ok (.iload_n 2, 1) := dk_28 (dk_at dksX8_hourOf_0 23 rfl rfl)
theorem dX8_hourOf_24 : decode cX8_hourOf 24 = .ok (.if_icmp .ne 7, 3) := dk_160 0 7 (dk_at dksX8_hourOf_1 0 rfl rfl)
theorem dX8_hourOf_27 : decode cX8_hourOf 27 = .ok (.iload_n 3, 1) := dk_29 (dk_at dksX8_hourOf_1 3 rfl rfl)
theorem dX8_hourOf_28 : decode cX8_hourOf 28 = .ok (.goto 15, 3) := dk_167 0 15 (dk_at dksX8_hourOf_1 4 rfl rfl)
theorem dX8_hourOf_31 : decode cX8_hourOf 31 = .ok (.iload 4, 2) := dk_21 4 (dk_at dksX8_hourOf_1 7 rfl rfl)
theorem dX8_hourOf_33 : decode cX8_hourOf 33 = .ok (.iload_n 3, 1) := dk_29 (dk_at dksX8_hourOf_1 9 rfl rfl)
theorem dX8_hourOf_34 : decode cX8_hourOf 34 = .ok (.if_icmp .ne 7, 3) := dk_160 0 7 (dk_at dksX8_hourOf_1 10 rfl rfl)
theorem dX8_hourOf_37 : decode cX8_hourOf 37 = .ok (.iload_n 2, 1) := dk_28 (dk_at dksX8_hourOf_1 13 rfl rfl)
theorem dX8_hourOf_38 : decode cX8_hourOf 38 = .ok (.goto 5, 3) := dk_167 0 5 (dk_at dksX8_hourOf_1 14 rfl rfl)
theorem dX8_hourOf_41 : decode cX8_hourOf 41 = .ok (.iload 4, 2) := dk_21 4 (dk_at dksX8_hourOf_1 17 rfl rfl)
theorem dX8_hourOf_43 : decode cX8_hourOf 43 = .ok (.ireturn, 1) := dk_172 (dk_at dksX8_hourOf_1 19 rfl rfl)
abbrev cX8_valueOf : ByteArray := prog_14_method_54_code
def yX8_valueOf : MethodName := ⟨RX8, "valueOf", "([II)I"⟩
def dkwX8_valueOf_1 : List UInt8 := [16, 10, 27, 96, 5, 100, 46, 172]
abbrev dktX8_valueOf_1 : List UInt8 := dkwX8_valueOf_1 ++ []
def dkwX8_valueOf_0 : List UInt8 := [27, 154, 0, 10, 42, 16, 31, 46, 167, 0, 23, 27, 4, 160, 0, 10, 42, 16, 30, 46, 167, 0, 11, 42]
abbrev dktX8_valueOf_0 : List UInt8 := dkwX8_valueOf_0 ++ dktX8_valueOf_1
theorem dksX8_valueOf_0 : cX8_valueOf.data.toList.drop 0 = dktX8_valueOf_0 := by decide +kernel
theorem dksX8_valueOf_1 : cX8_valueOf.data.toList.drop 24 = dktX8_valueOf_1 := dk_seg dksX8_valueOf_0 24 rfl rfl
theorem dX8_valueOf_0 : decode cX8_valueOf 0 = .ok (.iload_n 1, 1) := dk_27 (dk_at dksX8_valueOf_0 0 rfl rfl)
theorem dX8_valueOf_1 : decode cX8_valueOf 1 = .ok (.ifCond .ne 10, 3) := dk_154 0 10 (dk_at dksX8_valueOf_0 1 rfl rfl)
theorem dX8_valueOf_4 : decode cX8_valueOf 4 = .ok (.aload_n 0, 1) := dk_42 (dk_at dksX8_valueOf_0 4 rfl rfl)
theorem dX8_valueOf_5 : decode cX8_valueOf 5 = .ok (.bipush 31, 2) := dk_16 31 (dk_at dksX8_valueOf_0 5 rfl rfl)
theorem dX8_valueOf_7 : decode cX8_valueOf 7 = .ok (.iaload, 1) := dk_46 (dk_at dksX8_valueOf_0 7 rfl rfl)
theorem dX8_valueOf_8 : decode cX8_valueOf 8 = .ok (.goto 23, 3) := dk_167 0 23 (dk_at dksX8_valueOf_0 8 rfl rfl)
theorem dX8_valueOf_11 : decode cX8_valueOf 11 = .ok (.iload_n 1, 1) := dk_27 (dk_at dksX8_valueOf_0 11 rfl rfl)
theorem dX8_valueOf_12 : decode cX8_valueOf 12 = .ok (.iconst 1, 1) := dk_4 (dk_at dksX8_valueOf_0 12 rfl rfl)
theorem dX8_valueOf_13 : decode cX8_valueOf 13 = .ok (.if_icmp .ne 10, 3) := dk_160 0 10 (dk_at dksX8_valueOf_0 13 rfl rfl)
theorem dX8_valueOf_16 : decode cX8_valueOf 16 = .ok (.aload_n 0, 1) := dk_42 (dk_at dksX8_valueOf_0 16 rfl rfl)
theorem dX8_valueOf_17 : decode cX8_valueOf 17 = .ok (.bipush 30, 2) := dk_16 30 (dk_at dksX8_valueOf_0 17 rfl rfl)
theorem dX8_valueOf_19 : decode cX8_valueOf 19 = .ok (.iaload, 1) := dk_46 (dk_at dksX8_valueOf_0 19 rfl rfl)
theorem dX8_valueOf_20 : decode cX8_valueOf 20 = .ok (.goto 11, 3) := dk_167 0 11 (dk_at dksX8_valueOf_0 20 rfl rfl)
theorem dX8_valueOf_23 : decode cX8_valueOf 23 = .ok (.aload_n 0, 1) := dk_42 (dk_at dksX8_valueOf_0 23 rfl rfl)
theorem dX8_valueOf_24 : decode cX8_valueOf 24 = .ok (.bipush 10, 2) := dk_16 10 (dk_at dksX8_valueOf_1 0 rfl rfl)
theorem dX8_valueOf_26 : decode cX8_valueOf 26 = .ok (.iload_n 1, 1) := dk_27 (dk_at dksX8_valueOf_1 2 rfl rfl)
theorem dX8_valueOf_27 : decode cX8_valueOf 27 = .ok (.iadd, 1) := dk_96 (dk_at dksX8_valueOf_1 3 rfl rfl)
theorem dX8_valueOf_28 : decode cX8_valueOf 28 = .ok (.iconst 2, 1) := dk_5 (dk_at dksX8_valueOf_1 4 rfl rfl)
theorem dX8_valueOf_29 : decode cX8_valueOf 29 = .ok (.isub, 1) := dk_100 (dk_at dksX8_valueOf_1 5 rfl rfl)
theorem dX8_valueOf_30 : decode cX8_valueOf 30 = .ok (.iaload, 1) := dk_46 (dk_at dksX8_valueOf_1 6 rfl rfl)
theorem dX8_valueOf_31 : decode cX8_valueOf 31 = .ok (.ireturn, 1) := dk_172 (dk_at dksX8_valueOf_1 7 rfl rfl)
abbrev cX8_fitAt : ByteArray := prog_14_method_60_code
def yX8_fitAt : MethodName := ⟨RX8, "fitAt", "(II)I"⟩
def dkwX8_fitAt_2 : List UInt8 := [180, 0, 48, 27, 46, 28, 184, 1, 107, 182, 1, 46, 167, 0, 8, 42, 4, 182, 1, 27, 172]
abbrev dktX8_fitAt_2 : List UInt8 := dkwX8_fitAt_2 ++ []
def dkwX8_fitAt_1 : List UInt8 := [182, 1, 27, 172, 42, 2, 2, 182, 1, 104, 62, 27, 155, 0, 25, 27, 29, 162, 0, 20, 42, 42]
abbrev dktX8_fitAt_1 : List UInt8 := dkwX8_fitAt_1 ++ dktX8_fitAt_2
def dkwX8_fitAt_0 : List UInt8 := [42, 3, 181, 0, 73, 42, 180, 1, 34, 198, 0, 12, 28, 3, 5, 184, 0, 149, 154, 0, 9, 42, 4]
abbrev dktX8_fitAt_0 : List UInt8 := dkwX8_fitAt_0 ++ dktX8_fitAt_1
theorem dksX8_fitAt_0 : cX8_fitAt.data.toList.drop 0 = dktX8_fitAt_0 := by decide +kernel
theorem dksX8_fitAt_1 : cX8_fitAt.data.toList.drop 23 = dktX8_fitAt_1 := dk_seg dksX8_fitAt_0 23 rfl rfl
theorem dksX8_fitAt_2 : cX8_fitAt.data.toList.drop 45 = dktX8_fitAt_2 := dk_seg dksX8_fitAt_1 22 rfl rfl
theorem dX8_fitAt_0 : decode cX8_fitAt 0 = .ok (.aload_n 0, 1) := dk_42 (dk_at dksX8_fitAt_0 0 rfl rfl)
theorem dX8_fitAt_1 : decode cX8_fitAt 1 = .ok (.iconst 0, 1) := dk_3 (dk_at dksX8_fitAt_0 1 rfl rfl)
theorem dX8_fitAt_2 : decode cX8_fitAt 2 = .ok (.putfield 73, 3) := dk_181 0 73 (dk_at dksX8_fitAt_0 2 rfl rfl)
theorem dX8_fitAt_5 : decode cX8_fitAt 5 = .ok (.aload_n 0, 1) := dk_42 (dk_at dksX8_fitAt_0 5 rfl rfl)
theorem dX8_fitAt_6 : decode cX8_fitAt 6 = .ok (.getfield 290, 3) := dk_180 1 34 (dk_at dksX8_fitAt_0 6 rfl rfl)
theorem dX8_fitAt_9 : decode cX8_fitAt 9 = .ok (.ifnull 12, 3) := dk_198 0 12 (dk_at dksX8_fitAt_0 9 rfl rfl)
theorem dX8_fitAt_12 : decode cX8_fitAt 12 = .ok (.iload_n 2, 1) := dk_28 (dk_at dksX8_fitAt_0 12 rfl rfl)
theorem dX8_fitAt_13 : decode cX8_fitAt 13 = .ok (.iconst 0, 1) := dk_3 (dk_at dksX8_fitAt_0 13 rfl rfl)
theorem dX8_fitAt_14 : decode cX8_fitAt 14 = .ok (.iconst 2, 1) := dk_5 (dk_at dksX8_fitAt_0 14 rfl rfl)
theorem dX8_fitAt_15 : decode cX8_fitAt 15 = .ok (.invokestatic 149, 3) := dk_184 0 149 (dk_at dksX8_fitAt_0 15 rfl rfl)
theorem dX8_fitAt_18 : decode cX8_fitAt 18 = .ok (.ifCond .ne 9, 3) := dk_154 0 9 (dk_at dksX8_fitAt_0 18 rfl rfl)
theorem dX8_fitAt_21 : decode cX8_fitAt 21 = .ok (.aload_n 0, 1) := dk_42 (dk_at dksX8_fitAt_0 21 rfl rfl)
theorem dX8_fitAt_22 : decode cX8_fitAt 22 = .ok (.iconst 1, 1) := dk_4 (dk_at dksX8_fitAt_0 22 rfl rfl)
theorem dX8_fitAt_23 : decode cX8_fitAt 23 = .ok (.invokevirtual 283, 3) := dk_182 1 27 (dk_at dksX8_fitAt_1 0 rfl rfl)
theorem dX8_fitAt_26 : decode cX8_fitAt 26 = .ok (.ireturn, 1) := dk_172 (dk_at dksX8_fitAt_1 3 rfl rfl)
theorem dX8_fitAt_27 : decode cX8_fitAt 27 = .ok (.aload_n 0, 1) := dk_42 (dk_at dksX8_fitAt_1 4 rfl rfl)
theorem dX8_fitAt_28 : decode cX8_fitAt 28 = .ok (.iconst (-1), 1) := dk_2 (dk_at dksX8_fitAt_1 5 rfl rfl)
theorem dX8_fitAt_29 : decode cX8_fitAt 29 = .ok (.iconst (-1), 1) := dk_2 (dk_at dksX8_fitAt_1 6 rfl rfl)
theorem dX8_fitAt_30 : decode cX8_fitAt 30 = .ok (.invokevirtual 360, 3) := dk_182 1 104 (dk_at dksX8_fitAt_1 7 rfl rfl)
theorem dX8_fitAt_33 : decode cX8_fitAt 33 = .ok (.istore_n 3, 1) := dk_62 (dk_at dksX8_fitAt_1 10 rfl rfl)
theorem dX8_fitAt_34 : decode cX8_fitAt 34 = .ok (.iload_n 1, 1) := dk_27 (dk_at dksX8_fitAt_1 11 rfl rfl)
theorem dX8_fitAt_35 : decode cX8_fitAt 35 = .ok (.ifCond .lt 25, 3) := dk_155 0 25 (dk_at dksX8_fitAt_1 12 rfl rfl)
theorem dX8_fitAt_38 : decode cX8_fitAt 38 = .ok (.iload_n 1, 1) := dk_27 (dk_at dksX8_fitAt_1 15 rfl rfl)
theorem dX8_fitAt_39 : decode cX8_fitAt 39 = .ok (.iload_n 3, 1) := dk_29 (dk_at dksX8_fitAt_1 16 rfl rfl)
theorem dX8_fitAt_40 : decode cX8_fitAt 40 = .ok (.if_icmp .ge 20, 3) := dk_162 0 20 (dk_at dksX8_fitAt_1 17 rfl rfl)
theorem dX8_fitAt_43 : decode cX8_fitAt 43 = .ok (.aload_n 0, 1) := dk_42 (dk_at dksX8_fitAt_1 20 rfl rfl)
theorem dX8_fitAt_44 : decode cX8_fitAt 44 = .ok (.aload_n 0, 1) := dk_42 (dk_at dksX8_fitAt_1 21 rfl rfl)
theorem dX8_fitAt_45 : decode cX8_fitAt 45 = .ok (.getfield 48, 3) := dk_180 0 48 (dk_at dksX8_fitAt_2 0 rfl rfl)
theorem dX8_fitAt_48 : decode cX8_fitAt 48 = .ok (.iload_n 1, 1) := dk_27 (dk_at dksX8_fitAt_2 3 rfl rfl)
theorem dX8_fitAt_49 : decode cX8_fitAt 49 = .ok (.iaload, 1) := dk_46 (dk_at dksX8_fitAt_2 4 rfl rfl)
theorem dX8_fitAt_50 : decode cX8_fitAt 50 = .ok (.iload_n 2, 1) := dk_28 (dk_at dksX8_fitAt_2 5 rfl rfl)
theorem dX8_fitAt_51 : decode cX8_fitAt 51 = .ok (.invokestatic 363, 3) := dk_184 1 107 (dk_at dksX8_fitAt_2 6 rfl rfl)
theorem dX8_fitAt_54 : decode cX8_fitAt 54 = .ok (.invokevirtual 302, 3) := dk_182 1 46 (dk_at dksX8_fitAt_2 9 rfl rfl)
theorem dX8_fitAt_57 : decode cX8_fitAt 57 = .ok (.goto 8, 3) := dk_167 0 8 (dk_at dksX8_fitAt_2 12 rfl rfl)
theorem dX8_fitAt_60 : decode cX8_fitAt 60 = .ok (.aload_n 0, 1) := dk_42 (dk_at dksX8_fitAt_2 15 rfl rfl)
theorem dX8_fitAt_61 : decode cX8_fitAt 61 = .ok (.iconst 1, 1) := dk_4 (dk_at dksX8_fitAt_2 16 rfl rfl)
theorem dX8_fitAt_62 : decode cX8_fitAt 62 = .ok (.invokevirtual 283, 3) := dk_182 1 27 (dk_at dksX8_fitAt_2 17 rfl rfl)
theorem dX8_fitAt_65 : decode cX8_fitAt 65 = .ok (.ireturn, 1) := dk_172 (dk_at dksX8_fitAt_2 20 rfl rfl)
abbrev cX8_partOf : ByteArray := prog_14_method_58_code
def yX8_partOf : MethodName := ⟨RX8, "partOf", "(II)I"⟩
def dkwX8_partOf_1 : List UInt8 := [26, 8, 112, 172]
abbrev dktX8_partOf_1 : List UInt8 := dkwX8_partOf_1 ++ []
def dkwX8_partOf_0 : List UInt8 := [27, 154, 0, 10, 26, 16, 25, 108, 167, 0, 19, 27, 4, 160, 0, 11, 26, 8, 108, 8, 112, 167, 0, 6]
abbrev dktX8_partOf_0 : List UInt8 := dkwX8_partOf_0 ++ dktX8_partOf_1
theorem dksX8_partOf_0 : cX8_partOf.data.toList.drop 0 = dktX8_partOf_0 := by decide +kernel
theorem dksX8_partOf_1 : cX8_partOf.data.toList.drop 24 = dktX8_partOf_1 := dk_seg dksX8_partOf_0 24 rfl rfl
theorem dX8_partOf_0 : decode cX8_partOf 0 = .ok (.iload_n 1, 1) := dk_27 (dk_at dksX8_partOf_0 0 rfl rfl)
theorem dX8_partOf_1 : decode cX8_partOf 1 = .ok (.ifCond .ne 10, 3) := dk_154 0 10 (dk_at dksX8_partOf_0 1 rfl rfl)
theorem dX8_partOf_4 : decode cX8_partOf 4 = .ok (.iload_n 0, 1) := dk_26 (dk_at dksX8_partOf_0 4 rfl rfl)
theorem dX8_partOf_5 : decode cX8_partOf 5 = .ok (.bipush 25, 2) := dk_16 25 (dk_at dksX8_partOf_0 5 rfl rfl)
theorem dX8_partOf_7 : decode cX8_partOf 7 = .ok (.idiv, 1) := dk_108 (dk_at dksX8_partOf_0 7 rfl rfl)
theorem dX8_partOf_8 : decode cX8_partOf 8 = .ok (.goto 19, 3) := dk_167 0 19 (dk_at dksX8_partOf_0 8 rfl rfl)
theorem dX8_partOf_11 : decode cX8_partOf 11 = .ok (.iload_n 1, 1) := dk_27 (dk_at dksX8_partOf_0 11 rfl rfl)
theorem dX8_partOf_12 : decode cX8_partOf 12 = .ok (.iconst 1, 1) := dk_4 (dk_at dksX8_partOf_0 12 rfl rfl)
theorem dX8_partOf_13 : decode cX8_partOf 13 = .ok (.if_icmp .ne 11, 3) := dk_160 0 11 (dk_at dksX8_partOf_0 13 rfl rfl)
theorem dX8_partOf_16 : decode cX8_partOf 16 = .ok (.iload_n 0, 1) := dk_26 (dk_at dksX8_partOf_0 16 rfl rfl)
theorem dX8_partOf_17 : decode cX8_partOf 17 = .ok (.iconst 5, 1) := dk_8 (dk_at dksX8_partOf_0 17 rfl rfl)
theorem dX8_partOf_18 : decode cX8_partOf 18 = .ok (.idiv, 1) := dk_108 (dk_at dksX8_partOf_0 18 rfl rfl)
theorem dX8_partOf_19 : decode cX8_partOf 19 = .ok (.iconst 5, 1) := dk_8 (dk_at dksX8_partOf_0 19 rfl rfl)
theorem dX8_partOf_20 : decode cX8_partOf 20 = .ok (.irem, 1) := dk_112 (dk_at dksX8_partOf_0 20 rfl rfl)
theorem dX8_partOf_21 : decode cX8_partOf 21 = .ok (.goto 6, 3) := dk_167 0 6 (dk_at dksX8_partOf_0 21 rfl rfl)
theorem dX8_partOf_24 : decode cX8_partOf 24 = .ok (.iload_n 0, 1) := dk_26 (dk_at dksX8_partOf_1 0 rfl rfl)
theorem dX8_partOf_25 : decode cX8_partOf 25 = .ok (.iconst 5, 1) := dk_8 (dk_at dksX8_partOf_1 1 rfl rfl)
theorem dX8_partOf_26 : decode cX8_partOf 26 = .ok (.irem, 1) := dk_112 (dk_at dksX8_partOf_1 2 rfl rfl)
theorem dX8_partOf_27 : decode cX8_partOf 27 = .ok (.ireturn, 1) := dk_172 (dk_at dksX8_partOf_1 3 rfl rfl)
abbrev cX8_certain : ByteArray := prog_14_method_61_code
def yX8_certain : MethodName := ⟨RX8, "certain", "(I)I"⟩
def dkwX8_certain_4 : List UInt8 := [3, 46, 27, 184, 1, 107, 182, 1, 46, 172]
abbrev dktX8_certain_4 : List UInt8 := dkwX8_certain_4 ++ []
def dkwX8_certain_3 : List UInt8 := [184, 1, 107, 159, 0, 10, 42, 16, 254, 182, 1, 46, 172, 132, 3, 1, 167, 255, 218, 42, 42, 180, 0, 48]
abbrev dktX8_certain_3 : List UInt8 := dkwX8_certain_3 ++ dktX8_certain_4
def dkwX8_certain_2 : List UInt8 := [29, 28, 162, 0, 39, 42, 180, 0, 48, 29, 46, 27, 184, 1, 107, 42, 180, 0, 48, 3, 46, 27]
abbrev dktX8_certain_2 : List UInt8 := dkwX8_certain_2 ++ dktX8_certain_3
def dkwX8_certain_1 : List UInt8 := [182, 1, 27, 172, 42, 2, 2, 182, 1, 104, 61, 28, 154, 0, 10, 42, 16, 6, 182, 1, 27, 172, 4, 62]
abbrev dktX8_certain_1 : List UInt8 := dkwX8_certain_1 ++ dktX8_certain_2
def dkwX8_certain_0 : List UInt8 := [42, 3, 181, 0, 73, 42, 180, 1, 34, 198, 0, 12, 27, 3, 5, 184, 0, 149, 154, 0, 9, 42, 4]
abbrev dktX8_certain_0 : List UInt8 := dkwX8_certain_0 ++ dktX8_certain_1
theorem dksX8_certain_0 : cX8_certain.data.toList.drop 0 = dktX8_certain_0 := by decide +kernel
theorem dksX8_certain_1 : cX8_certain.data.toList.drop 23 = dktX8_certain_1 := dk_seg dksX8_certain_0 23 rfl rfl
theorem dksX8_certain_2 : cX8_certain.data.toList.drop 47 = dktX8_certain_2 := dk_seg dksX8_certain_1 24 rfl rfl
theorem dksX8_certain_3 : cX8_certain.data.toList.drop 69 = dktX8_certain_3 := dk_seg dksX8_certain_2 22 rfl rfl
theorem dksX8_certain_4 : cX8_certain.data.toList.drop 93 = dktX8_certain_4 := dk_seg dksX8_certain_3 24 rfl rfl
theorem dX8_certain_0 : decode cX8_certain 0 = .ok (.aload_n 0, 1) := dk_42 (dk_at dksX8_certain_0 0 rfl rfl)
theorem dX8_certain_1 : decode cX8_certain 1 = .ok (.iconst 0, 1) := dk_3 (dk_at dksX8_certain_0 1 rfl rfl)
theorem dX8_certain_2 : decode cX8_certain 2 = .ok (.putfield 73, 3) := dk_181 0 73 (dk_at dksX8_certain_0 2 rfl rfl)
theorem dX8_certain_5 : decode cX8_certain 5 = .ok (.aload_n 0, 1) := dk_42 (dk_at dksX8_certain_0 5 rfl rfl)
theorem dX8_certain_6 : decode cX8_certain 6 = .ok (.getfield 290, 3) := dk_180 1 34 (dk_at dksX8_certain_0 6 rfl rfl)
theorem dX8_certain_9 : decode cX8_certain 9 = .ok (.ifnull 12, 3) := dk_198 0 12 (dk_at dksX8_certain_0 9 rfl rfl)
theorem dX8_certain_12 : decode cX8_certain 12 = .ok (.iload_n 1, 1) := dk_27 (dk_at dksX8_certain_0 12 rfl rfl)
theorem dX8_certain_13 : decode cX8_certain 13 = .ok (.iconst 0, 1) := dk_3 (dk_at dksX8_certain_0 13 rfl rfl)
theorem dX8_certain_14 : decode cX8_certain 14 = .ok (.iconst 2, 1) := dk_5 (dk_at dksX8_certain_0 14 rfl rfl)
theorem dX8_certain_15 : decode cX8_certain 15 = .ok (.invokestatic 149, 3) := dk_184 0 149 (dk_at dksX8_certain_0 15 rfl rfl)
theorem dX8_certain_18 : decode cX8_certain 18 = .ok (.ifCond .ne 9, 3) := dk_154 0 9 (dk_at dksX8_certain_0 18 rfl rfl)
theorem dX8_certain_21 : decode cX8_certain 21 = .ok (.aload_n 0, 1) := dk_42 (dk_at dksX8_certain_0 21 rfl rfl)
theorem dX8_certain_22 : decode cX8_certain 22 = .ok (.iconst 1, 1) := dk_4 (dk_at dksX8_certain_0 22 rfl rfl)
theorem dX8_certain_23 : decode cX8_certain 23 = .ok (.invokevirtual 283, 3) := dk_182 1 27 (dk_at dksX8_certain_1 0 rfl rfl)
theorem dX8_certain_26 : decode cX8_certain 26 = .ok (.ireturn, 1) := dk_172 (dk_at dksX8_certain_1 3 rfl rfl)
theorem dX8_certain_27 : decode cX8_certain 27 = .ok (.aload_n 0, 1) := dk_42 (dk_at dksX8_certain_1 4 rfl rfl)
theorem dX8_certain_28 : decode cX8_certain 28 = .ok (.iconst (-1), 1) := dk_2 (dk_at dksX8_certain_1 5 rfl rfl)
theorem dX8_certain_29 : decode cX8_certain 29 = .ok (.iconst (-1), 1) := dk_2 (dk_at dksX8_certain_1 6 rfl rfl)
theorem dX8_certain_30 : decode cX8_certain 30 = .ok (.invokevirtual 360, 3) := dk_182 1 104 (dk_at dksX8_certain_1 7 rfl rfl)
theorem dX8_certain_33 : decode cX8_certain 33 = .ok (.istore_n 2, 1) := dk_61 (dk_at dksX8_certain_1 10 rfl rfl)
theorem dX8_certain_34 : decode cX8_certain 34 = .ok (.iload_n 2, 1) := dk_28 (dk_at dksX8_certain_1 11 rfl rfl)
theorem dX8_certain_35 : decode cX8_certain 35 = .ok (.ifCond .ne 10, 3) := dk_154 0 10 (dk_at dksX8_certain_1 12 rfl rfl)
theorem dX8_certain_38 : decode cX8_certain 38 = .ok (.aload_n 0, 1) := dk_42 (dk_at dksX8_certain_1 15 rfl rfl)
theorem dX8_certain_39 : decode cX8_certain 39 = .ok (.bipush 6, 2) := dk_16 6 (dk_at dksX8_certain_1 16 rfl rfl)
theorem dX8_certain_41 : decode cX8_certain 41 = .ok (.invokevirtual 283, 3) := dk_182 1 27 (dk_at dksX8_certain_1 18 rfl rfl)
theorem dX8_certain_44 : decode cX8_certain 44 = .ok (.ireturn, 1) := dk_172 (dk_at dksX8_certain_1 21 rfl rfl)
theorem dX8_certain_45 : decode cX8_certain 45 = .ok (.iconst 1, 1) := dk_4 (dk_at dksX8_certain_1 22 rfl rfl)
theorem dX8_certain_46 : decode cX8_certain 46 = .ok (.istore_n 3, 1) := dk_62 (dk_at dksX8_certain_1 23 rfl rfl)
theorem dX8_certain_47 : decode cX8_certain 47 = .ok (.iload_n 3, 1) := dk_29 (dk_at dksX8_certain_2 0 rfl rfl)
theorem dX8_certain_48 : decode cX8_certain 48 = .ok (.iload_n 2, 1) := dk_28 (dk_at dksX8_certain_2 1 rfl rfl)
theorem dX8_certain_49 : decode cX8_certain 49 = .ok (.if_icmp .ge 39, 3) := dk_162 0 39 (dk_at dksX8_certain_2 2 rfl rfl)
theorem dX8_certain_52 : decode cX8_certain 52 = .ok (.aload_n 0, 1) := dk_42 (dk_at dksX8_certain_2 5 rfl rfl)
theorem dX8_certain_53 : decode cX8_certain 53 = .ok (.getfield 48, 3) := dk_180 0 48 (dk_at dksX8_certain_2 6 rfl rfl)
theorem dX8_certain_56 : decode cX8_certain 56 = .ok (.iload_n 3, 1) := dk_29 (dk_at dksX8_certain_2 9 rfl rfl)
theorem dX8_certain_57 : decode cX8_certain 57 = .ok (.iaload, 1) := dk_46 (dk_at dksX8_certain_2 10 rfl rfl)
theorem dX8_certain_58 : decode cX8_certain 58 = .ok (.iload_n 1, 1) := dk_27 (dk_at dksX8_certain_2 11 rfl rfl)
theorem dX8_certain_59 : decode cX8_certain 59 = .ok (.invokestatic 363, 3) := dk_184 1 107 (dk_at dksX8_certain_2 12 rfl rfl)
theorem dX8_certain_62 : decode cX8_certain 62 = .ok (.aload_n 0, 1) := dk_42 (dk_at dksX8_certain_2 15 rfl rfl)
theorem dX8_certain_63 : decode cX8_certain 63 = .ok (.getfield 48, 3) := dk_180 0 48 (dk_at dksX8_certain_2 16 rfl rfl)
theorem dX8_certain_66 : decode cX8_certain 66 = .ok (.iconst 0, 1) := dk_3 (dk_at dksX8_certain_2 19 rfl rfl)
theorem dX8_certain_67 : decode cX8_certain 67 = .ok (.iaload, 1) := dk_46 (dk_at dksX8_certain_2 20 rfl rfl)
theorem dX8_certain_68 : decode cX8_certain 68 = .ok (.iload_n 1, 1) := dk_27 (dk_at dksX8_certain_2 21 rfl rfl)
theorem dX8_certain_69 : decode cX8_certain 69 = .ok (.invokestatic 363, 3) := dk_184 1 107 (dk_at dksX8_certain_3 0 rfl rfl)
theorem dX8_certain_72 : decode cX8_certain 72 = .ok (.if_icmp .eq 10, 3) := dk_159 0 10 (dk_at dksX8_certain_3 3 rfl rfl)
theorem dX8_certain_75 : decode cX8_certain 75 = .ok (.aload_n 0, 1) := dk_42 (dk_at dksX8_certain_3 6 rfl rfl)
theorem dX8_certain_76 : decode cX8_certain 76 = .ok (.bipush (-2), 2) := dk_16 254 (dk_at dksX8_certain_3 7 rfl rfl)
theorem dX8_certain_78 : decode cX8_certain 78 = .ok (.invokevirtual 302, 3) := dk_182 1 46 (dk_at dksX8_certain_3 9 rfl rfl)
theorem dX8_certain_81 : decode cX8_certain 81 = .ok (.ireturn, 1) := dk_172 (dk_at dksX8_certain_3 12 rfl rfl)
theorem dX8_certain_82 : decode cX8_certain 82 = .ok (.iinc 3 1, 3) := dk_132 3 1 (dk_at dksX8_certain_3 13 rfl rfl)
theorem dX8_certain_85 : decode cX8_certain 85 = .ok (.goto (-38), 3) := dk_167 255 218 (dk_at dksX8_certain_3 16 rfl rfl)
theorem dX8_certain_88 : decode cX8_certain 88 = .ok (.aload_n 0, 1) := dk_42 (dk_at dksX8_certain_3 19 rfl rfl)
theorem dX8_certain_89 : decode cX8_certain 89 = .ok (.aload_n 0, 1) := dk_42 (dk_at dksX8_certain_3 20 rfl rfl)
theorem dX8_certain_90 : decode cX8_certain 90 = .ok (.getfield 48, 3) := dk_180 0 48 (dk_at dksX8_certain_3 21 rfl rfl)
theorem dX8_certain_93 : decode cX8_certain 93 = .ok (.iconst 0, 1) := dk_3 (dk_at dksX8_certain_4 0 rfl rfl)
theorem dX8_certain_94 : decode cX8_certain 94 = .ok (.iaload, 1) := dk_46 (dk_at dksX8_certain_4 1 rfl rfl)
theorem dX8_certain_95 : decode cX8_certain 95 = .ok (.iload_n 1, 1) := dk_27 (dk_at dksX8_certain_4 2 rfl rfl)
theorem dX8_certain_96 : decode cX8_certain 96 = .ok (.invokestatic 363, 3) := dk_184 1 107 (dk_at dksX8_certain_4 3 rfl rfl)
theorem dX8_certain_99 : decode cX8_certain 99 = .ok (.invokevirtual 302, 3) := dk_182 1 46 (dk_at dksX8_certain_4 6 rfl rfl)
theorem dX8_certain_102 : decode cX8_certain 102 = .ok (.ireturn, 1) := dk_172 (dk_at dksX8_certain_4 9 rfl rfl)
abbrev cX8_guess : ByteArray := prog_14_method_63_code
def yX8_guess : MethodName := ⟨RX8, "guess", "(IIIII)I"⟩
def dkwX8_guess_3 : List UInt8 := [167, 255, 236, 42, 42, 180, 0, 21, 21, 5, 184, 1, 98, 182, 1, 46, 172]
abbrev dktX8_guess_3 : List UInt8 := dkwX8_guess_3 ++ []
def dkwX8_guess_2 : List UInt8 := [3, 54, 6, 21, 6, 21, 4, 163, 0, 19, 42, 42, 180, 0, 21, 21, 6, 182, 1, 91, 132, 6, 1]
abbrev dktX8_guess_2 : List UInt8 := dkwX8_guess_2 ++ dktX8_guess_3
def dkwX8_guess_1 : List UInt8 := [29, 184, 1, 110, 154, 0, 9, 42, 5, 182, 1, 27, 172, 42, 42, 180, 0, 21, 27, 28, 29, 182, 1, 87]
abbrev dktX8_guess_1 : List UInt8 := dkwX8_guess_1 ++ dktX8_guess_2
def dkwX8_guess_0 : List UInt8 := [42, 3, 181, 0, 73, 42, 21, 4, 21, 5, 182, 1, 82, 154, 0, 9, 42, 4, 182, 1, 27, 172, 27, 28]
abbrev dktX8_guess_0 : List UInt8 := dkwX8_guess_0 ++ dktX8_guess_1
theorem dksX8_guess_0 : cX8_guess.data.toList.drop 0 = dktX8_guess_0 := by decide +kernel
theorem dksX8_guess_1 : cX8_guess.data.toList.drop 24 = dktX8_guess_1 := dk_seg dksX8_guess_0 24 rfl rfl
theorem dksX8_guess_2 : cX8_guess.data.toList.drop 48 = dktX8_guess_2 := dk_seg dksX8_guess_1 24 rfl rfl
theorem dksX8_guess_3 : cX8_guess.data.toList.drop 71 = dktX8_guess_3 := dk_seg dksX8_guess_2 23 rfl rfl
theorem dX8_guess_0 : decode cX8_guess 0 = .ok (.aload_n 0, 1) := dk_42 (dk_at dksX8_guess_0 0 rfl rfl)
theorem dX8_guess_1 : decode cX8_guess 1 = .ok (.iconst 0, 1) := dk_3 (dk_at dksX8_guess_0 1 rfl rfl)
theorem dX8_guess_2 : decode cX8_guess 2 = .ok (.putfield 73, 3) := dk_181 0 73 (dk_at dksX8_guess_0 2 rfl rfl)
theorem dX8_guess_5 : decode cX8_guess 5 = .ok (.aload_n 0, 1) := dk_42 (dk_at dksX8_guess_0 5 rfl rfl)
theorem dX8_guess_6 : decode cX8_guess 6 = .ok (.iload 4, 2) := dk_21 4 (dk_at dksX8_guess_0 6 rfl rfl)
theorem dX8_guess_8 : decode cX8_guess 8 = .ok (.iload 5, 2) := dk_21 5 (dk_at dksX8_guess_0 8 rfl rfl)
theorem dX8_guess_10 : decode cX8_guess 10 = .ok (.invokevirtual 338, 3) := dk_182 1 82 (dk_at dksX8_guess_0 10 rfl rfl)
theorem dX8_guess_13 : decode cX8_guess 13 = .ok (.ifCond .ne 9, 3) := dk_154 0 9 (dk_at dksX8_guess_0 13 rfl rfl)
theorem dX8_guess_16 : decode cX8_guess 16 = .ok (.aload_n 0, 1) := dk_42 (dk_at dksX8_guess_0 16 rfl rfl)
theorem dX8_guess_17 : decode cX8_guess 17 = .ok (.iconst 1, 1) := dk_4 (dk_at dksX8_guess_0 17 rfl rfl)
theorem dX8_guess_18 : decode cX8_guess 18 = .ok (.invokevirtual 283, 3) := dk_182 1 27 (dk_at dksX8_guess_0 18 rfl rfl)
theorem dX8_guess_21 : decode cX8_guess 21 = .ok (.ireturn, 1) := dk_172 (dk_at dksX8_guess_0 21 rfl rfl)
theorem dX8_guess_22 : decode cX8_guess 22 = .ok (.iload_n 1, 1) := dk_27 (dk_at dksX8_guess_0 22 rfl rfl)
theorem dX8_guess_23 : decode cX8_guess 23 = .ok (.iload_n 2, 1) := dk_28 (dk_at dksX8_guess_0 23 rfl rfl)
theorem dX8_guess_24 : decode cX8_guess 24 = .ok (.iload_n 3, 1) := dk_29 (dk_at dksX8_guess_1 0 rfl rfl)
theorem dX8_guess_25 : decode cX8_guess 25 = .ok (.invokestatic 366, 3) := dk_184 1 110 (dk_at dksX8_guess_1 1 rfl rfl)
theorem dX8_guess_28 : decode cX8_guess 28 = .ok (.ifCond .ne 9, 3) := dk_154 0 9 (dk_at dksX8_guess_1 4 rfl rfl)
theorem dX8_guess_31 : decode cX8_guess 31 = .ok (.aload_n 0, 1) := dk_42 (dk_at dksX8_guess_1 7 rfl rfl)
theorem dX8_guess_32 : decode cX8_guess 32 = .ok (.iconst 2, 1) := dk_5 (dk_at dksX8_guess_1 8 rfl rfl)
theorem dX8_guess_33 : decode cX8_guess 33 = .ok (.invokevirtual 283, 3) := dk_182 1 27 (dk_at dksX8_guess_1 9 rfl rfl)
theorem dX8_guess_36 : decode cX8_guess 36 = .ok (.ireturn, 1) := dk_172 (dk_at dksX8_guess_1 12 rfl rfl)
theorem dX8_guess_37 : decode cX8_guess 37 = .ok (.aload_n 0, 1) := dk_42 (dk_at dksX8_guess_1 13 rfl rfl)
theorem dX8_guess_38 : decode cX8_guess 38 = .ok (.aload_n 0, 1) := dk_42 (dk_at dksX8_guess_1 14 rfl rfl)
theorem dX8_guess_39 : decode cX8_guess 39 = .ok (.getfield 21, 3) := dk_180 0 21 (dk_at dksX8_guess_1 15 rfl rfl)
theorem dX8_guess_42 : decode cX8_guess 42 = .ok (.iload_n 1, 1) := dk_27 (dk_at dksX8_guess_1 18 rfl rfl)
theorem dX8_guess_43 : decode cX8_guess 43 = .ok (.iload_n 2, 1) := dk_28 (dk_at dksX8_guess_1 19 rfl rfl)
theorem dX8_guess_44 : decode cX8_guess 44 = .ok (.iload_n 3, 1) := dk_29 (dk_at dksX8_guess_1 20 rfl rfl)
theorem dX8_guess_45 : decode cX8_guess 45 = .ok (.invokevirtual 343, 3) := dk_182 1 87 (dk_at dksX8_guess_1 21 rfl rfl)
theorem dX8_guess_48 : decode cX8_guess 48 = .ok (.iconst 0, 1) := dk_3 (dk_at dksX8_guess_2 0 rfl rfl)
theorem dX8_guess_49 : decode cX8_guess 49 = .ok (.istore 6, 2) := dk_54 6 (dk_at dksX8_guess_2 1 rfl rfl)
theorem dX8_guess_51 : decode cX8_guess 51 = .ok (.iload 6, 2) := dk_21 6 (dk_at dksX8_guess_2 3 rfl rfl)
theorem dX8_guess_53 : decode cX8_guess 53 = .ok (.iload 4, 2) := dk_21 4 (dk_at dksX8_guess_2 5 rfl rfl)
theorem dX8_guess_55 : decode cX8_guess 55 = .ok (.if_icmp .gt 19, 3) := dk_163 0 19 (dk_at dksX8_guess_2 7 rfl rfl)
theorem dX8_guess_58 : decode cX8_guess 58 = .ok (.aload_n 0, 1) := dk_42 (dk_at dksX8_guess_2 10 rfl rfl)
theorem dX8_guess_59 : decode cX8_guess 59 = .ok (.aload_n 0, 1) := dk_42 (dk_at dksX8_guess_2 11 rfl rfl)
theorem dX8_guess_60 : decode cX8_guess 60 = .ok (.getfield 21, 3) := dk_180 0 21 (dk_at dksX8_guess_2 12 rfl rfl)
theorem dX8_guess_63 : decode cX8_guess 63 = .ok (.iload 6, 2) := dk_21 6 (dk_at dksX8_guess_2 15 rfl rfl)
theorem dX8_guess_65 : decode cX8_guess 65 = .ok (.invokevirtual 347, 3) := dk_182 1 91 (dk_at dksX8_guess_2 17 rfl rfl)
theorem dX8_guess_68 : decode cX8_guess 68 = .ok (.iinc 6 1, 3) := dk_132 6 1 (dk_at dksX8_guess_2 20 rfl rfl)
theorem dX8_guess_71 : decode cX8_guess 71 = .ok (.goto (-20), 3) := dk_167 255 236 (dk_at dksX8_guess_3 0 rfl rfl)
theorem dX8_guess_74 : decode cX8_guess 74 = .ok (.aload_n 0, 1) := dk_42 (dk_at dksX8_guess_3 3 rfl rfl)
theorem dX8_guess_75 : decode cX8_guess 75 = .ok (.aload_n 0, 1) := dk_42 (dk_at dksX8_guess_3 4 rfl rfl)
theorem dX8_guess_76 : decode cX8_guess 76 = .ok (.getfield 21, 3) := dk_180 0 21 (dk_at dksX8_guess_3 5 rfl rfl)
theorem dX8_guess_79 : decode cX8_guess 79 = .ok (.iload 5, 2) := dk_21 5 (dk_at dksX8_guess_3 8 rfl rfl)
theorem dX8_guess_81 : decode cX8_guess 81 = .ok (.invokestatic 354, 3) := dk_184 1 98 (dk_at dksX8_guess_3 10 rfl rfl)
theorem dX8_guess_84 : decode cX8_guess 84 = .ok (.invokevirtual 302, 3) := dk_182 1 46 (dk_at dksX8_guess_3 13 rfl rfl)
theorem dX8_guess_87 : decode cX8_guess 87 = .ok (.ireturn, 1) := dk_172 (dk_at dksX8_guess_3 16 rfl rfl)
abbrev cX8_isStart : ByteArray := prog_14_method_62_code
def yX8_isStart : MethodName := ⟨RX8, "isStart", "(III)Z"⟩
def dkwX8_isStart_1 : List UInt8 := [153, 0, 7, 4, 167, 0, 4, 3, 172]
abbrev dktX8_isStart_1 : List UInt8 := dkwX8_isStart_1 ++ []
def dkwX8_isStart_0 : List UInt8 := [26, 3, 6, 184, 0, 149, 153, 0, 25, 27, 3, 7, 184, 0, 149, 153, 0, 16, 28, 3, 7, 184, 0, 149]
abbrev dktX8_isStart_0 : List UInt8 := dkwX8_isStart_0 ++ dktX8_isStart_1
theorem dksX8_isStart_0 : cX8_isStart.data.toList.drop 0 = dktX8_isStart_0 := by decide +kernel
theorem dksX8_isStart_1 : cX8_isStart.data.toList.drop 24 = dktX8_isStart_1 := dk_seg dksX8_isStart_0 24 rfl rfl
theorem dX8_isStart_0 : decode cX8_isStart 0 = .ok (.iload_n 0, 1) := dk_26 (dk_at dksX8_isStart_0 0 rfl rfl)
theorem dX8_isStart_1 : decode cX8_isStart 1 = .ok (.iconst 0, 1) := dk_3 (dk_at dksX8_isStart_0 1 rfl rfl)
theorem dX8_isStart_2 : decode cX8_isStart 2 = .ok (.iconst 3, 1) := dk_6 (dk_at dksX8_isStart_0 2 rfl rfl)
theorem dX8_isStart_3 : decode cX8_isStart 3 = .ok (.invokestatic 149, 3) := dk_184 0 149 (dk_at dksX8_isStart_0 3 rfl rfl)
theorem dX8_isStart_6 : decode cX8_isStart 6 = .ok (.ifCond .eq 25, 3) := dk_153 0 25 (dk_at dksX8_isStart_0 6 rfl rfl)
theorem dX8_isStart_9 : decode cX8_isStart 9 = .ok (.iload_n 1, 1) := dk_27 (dk_at dksX8_isStart_0 9 rfl rfl)
theorem dX8_isStart_10 : decode cX8_isStart 10 = .ok (.iconst 0, 1) := dk_3 (dk_at dksX8_isStart_0 10 rfl rfl)
theorem dX8_isStart_11 : decode cX8_isStart 11 = .ok (.iconst 4, 1) := dk_7 (dk_at dksX8_isStart_0 11 rfl rfl)
theorem dX8_isStart_12 : decode cX8_isStart 12 = .ok (.invokestatic 149, 3) := dk_184 0 149 (dk_at dksX8_isStart_0 12 rfl rfl)
theorem dX8_isStart_15 : decode cX8_isStart 15 = .ok (.ifCond .eq 16, 3) := dk_153 0 16 (dk_at dksX8_isStart_0 15 rfl rfl)
theorem dX8_isStart_18 : decode cX8_isStart 18 = .ok (.iload_n 2, 1) := dk_28 (dk_at dksX8_isStart_0 18 rfl rfl)
theorem dX8_isStart_19 : decode cX8_isStart 19 = .ok (.iconst 0, 1) := dk_3 (dk_at dksX8_isStart_0 19 rfl rfl)
theorem dX8_isStart_20 : decode cX8_isStart 20 = .ok (.iconst 4, 1) := dk_7 (dk_at dksX8_isStart_0 20 rfl rfl)
theorem dX8_isStart_21 : decode cX8_isStart 21 = .ok (.invokestatic 149, 3) := dk_184 0 149 (dk_at dksX8_isStart_0 21 rfl rfl)
theorem dX8_isStart_24 : decode cX8_isStart 24 = .ok (.ifCond .eq 7, 3) := dk_153 0 7 (dk_at dksX8_isStart_1 0 rfl rfl)
theorem dX8_isStart_27 : decode cX8_isStart 27 = .ok (.iconst 1, 1) := dk_4 (dk_at dksX8_isStart_1 3 rfl rfl)
theorem dX8_isStart_28 : decode cX8_isStart 28 = .ok (.goto 4, 3) := dk_167 0 4 (dk_at dksX8_isStart_1 4 rfl rfl)
theorem dX8_isStart_31 : decode cX8_isStart 31 = .ok (.iconst 0, 1) := dk_3 (dk_at dksX8_isStart_1 7 rfl rfl)
theorem dX8_isStart_32 : decode cX8_isStart 32 = .ok (.ireturn, 1) := dk_172 (dk_at dksX8_isStart_1 8 rfl rfl)
abbrev cX8_swapped : ByteArray := prog_14_method_64_code
def yX8_swapped : MethodName := ⟨RX8, "swapped", "()I"⟩
def dkwX8_swapped_3 : List UInt8 := [132, 2, 1, 167, 255, 227, 132, 1, 1, 167, 255, 211, 42, 16, 254, 182, 1, 46, 172]
abbrev dktX8_swapped_3 : List UInt8 := dkwX8_swapped_3 ++ []
def dkwX8_swapped_2 : List UInt8 := [162, 0, 29, 42, 27, 28, 182, 1, 104, 158, 0, 14, 42, 16, 100, 27, 104, 28, 96, 182, 1, 46, 172]
abbrev dktX8_swapped_2 : List UInt8 := dkwX8_swapped_2 ++ dktX8_swapped_3
def dkwX8_swapped_1 : List UInt8 := [158, 0, 9, 42, 8, 182, 1, 27, 172, 3, 60, 27, 16, 12, 162, 0, 45, 27, 4, 96, 61, 28, 16, 12]
abbrev dktX8_swapped_1 : List UInt8 := dkwX8_swapped_1 ++ dktX8_swapped_2
def dkwX8_swapped_0 : List UInt8 := [42, 3, 181, 0, 73, 42, 180, 1, 34, 199, 0, 9, 42, 4, 182, 1, 27, 172, 42, 2, 2, 182, 1, 104]
abbrev dktX8_swapped_0 : List UInt8 := dkwX8_swapped_0 ++ dktX8_swapped_1
theorem dksX8_swapped_0 : cX8_swapped.data.toList.drop 0 = dktX8_swapped_0 := by decide +kernel
theorem dksX8_swapped_1 : cX8_swapped.data.toList.drop 24 = dktX8_swapped_1 := dk_seg dksX8_swapped_0 24 rfl rfl
theorem dksX8_swapped_2 : cX8_swapped.data.toList.drop 48 = dktX8_swapped_2 := dk_seg dksX8_swapped_1 24 rfl rfl
theorem dksX8_swapped_3 : cX8_swapped.data.toList.drop 71 = dktX8_swapped_3 := dk_seg dksX8_swapped_2 23 rfl rfl
theorem dX8_swapped_0 : decode cX8_swapped 0 = .ok (.aload_n 0, 1) := dk_42 (dk_at dksX8_swapped_0 0 rfl rfl)
theorem dX8_swapped_1 : decode cX8_swapped 1 = .ok (.iconst 0, 1) := dk_3 (dk_at dksX8_swapped_0 1 rfl rfl)
theorem dX8_swapped_2 : decode cX8_swapped 2 = .ok (.putfield 73, 3) := dk_181 0 73 (dk_at dksX8_swapped_0 2 rfl rfl)
theorem dX8_swapped_5 : decode cX8_swapped 5 = .ok (.aload_n 0, 1) := dk_42 (dk_at dksX8_swapped_0 5 rfl rfl)
theorem dX8_swapped_6 : decode cX8_swapped 6 = .ok (.getfield 290, 3) := dk_180 1 34 (dk_at dksX8_swapped_0 6 rfl rfl)
theorem dX8_swapped_9 : decode cX8_swapped 9 = .ok (.ifnonnull 9, 3) := dk_199 0 9 (dk_at dksX8_swapped_0 9 rfl rfl)
theorem dX8_swapped_12 : decode cX8_swapped 12 = .ok (.aload_n 0, 1) := dk_42 (dk_at dksX8_swapped_0 12 rfl rfl)
theorem dX8_swapped_13 : decode cX8_swapped 13 = .ok (.iconst 1, 1) := dk_4 (dk_at dksX8_swapped_0 13 rfl rfl)
theorem dX8_swapped_14 : decode cX8_swapped 14 = .ok (.invokevirtual 283, 3) := dk_182 1 27 (dk_at dksX8_swapped_0 14 rfl rfl)
theorem dX8_swapped_17 : decode cX8_swapped 17 = .ok (.ireturn, 1) := dk_172 (dk_at dksX8_swapped_0 17 rfl rfl)
theorem dX8_swapped_18 : decode cX8_swapped 18 = .ok (.aload_n 0, 1) := dk_42 (dk_at dksX8_swapped_0 18 rfl rfl)
theorem dX8_swapped_19 : decode cX8_swapped 19 = .ok (.iconst (-1), 1) := dk_2 (dk_at dksX8_swapped_0 19 rfl rfl)
theorem dX8_swapped_20 : decode cX8_swapped 20 = .ok (.iconst (-1), 1) := dk_2 (dk_at dksX8_swapped_0 20 rfl rfl)
theorem dX8_swapped_21 : decode cX8_swapped 21 = .ok (.invokevirtual 360, 3) := dk_182 1 104 (dk_at dksX8_swapped_0 21 rfl rfl)
theorem dX8_swapped_24 : decode cX8_swapped 24 = .ok (.ifCond .le 9, 3) := dk_158 0 9 (dk_at dksX8_swapped_1 0 rfl rfl)
theorem dX8_swapped_27 : decode cX8_swapped 27 = .ok (.aload_n 0, 1) := dk_42 (dk_at dksX8_swapped_1 3 rfl rfl)
theorem dX8_swapped_28 : decode cX8_swapped 28 = .ok (.iconst 5, 1) := dk_8 (dk_at dksX8_swapped_1 4 rfl rfl)
theorem dX8_swapped_29 : decode cX8_swapped 29 = .ok (.invokevirtual 283, 3) := dk_182 1 27 (dk_at dksX8_swapped_1 5 rfl rfl)
theorem dX8_swapped_32 : decode cX8_swapped 32 = .ok (.ireturn, 1) := dk_172 (dk_at dksX8_swapped_1 8 rfl rfl)
theorem dX8_swapped_33 : decode cX8_swapped 33 = .ok (.iconst 0, 1) := dk_3 (dk_at dksX8_swapped_1 9 rfl rfl)
theorem dX8_swapped_34 : decode cX8_swapped 34 = .ok (.istore_n 1, 1) := dk_60 (dk_at dksX8_swapped_1 10 rfl rfl)
theorem dX8_swapped_35 : decode cX8_swapped 35 = .ok (.iload_n 1, 1) := dk_27 (dk_at dksX8_swapped_1 11 rfl rfl)
theorem dX8_swapped_36 : decode cX8_swapped 36 = .ok (.bipush 12, 2) := dk_16 12 (dk_at dksX8_swapped_1 12 rfl rfl)
theorem dX8_swapped_38 : decode cX8_swapped 38 = .ok (.if_icmp .ge 45, 3) := dk_162 0 45 (dk_at dksX8_swapped_1 14 rfl rfl)
theorem dX8_swapped_41 : decode cX8_swapped 41 = .ok (.iload_n 1, 1) := dk_27 (dk_at dksX8_swapped_1 17 rfl rfl)
theorem dX8_swapped_42 : decode cX8_swapped 42 = .ok (.iconst 1, 1) := dk_4 (dk_at dksX8_swapped_1 18 rfl rfl)
theorem dX8_swapped_43 : decode cX8_swapped 43 = .ok (.iadd, 1) := dk_96 (dk_at dksX8_swapped_1 19 rfl rfl)
theorem dX8_swapped_44 : decode cX8_swapped 44 = .ok (.istore_n 2, 1) := dk_61 (dk_at dksX8_swapped_1 20 rfl rfl)
theorem dX8_swapped_45 : decode cX8_swapped 45 = .ok (.iload_n 2, 1) := dk_28 (dk_at dksX8_swapped_1 21 rfl rfl)
theorem dX8_swapped_46 : decode cX8_swapped 46 = .ok (.bipush 12, 2) := dk_16 12 (dk_at dksX8_swapped_1 22 rfl rfl)
theorem dX8_swapped_48 : decode cX8_swapped 48 = .ok (.if_icmp .ge 29, 3) := dk_162 0 29 (dk_at dksX8_swapped_2 0 rfl rfl)
theorem dX8_swapped_51 : decode cX8_swapped 51 = .ok (.aload_n 0, 1) := dk_42 (dk_at dksX8_swapped_2 3 rfl rfl)
theorem dX8_swapped_52 : decode cX8_swapped 52 = .ok (.iload_n 1, 1) := dk_27 (dk_at dksX8_swapped_2 4 rfl rfl)
theorem dX8_swapped_53 : decode cX8_swapped 53 = .ok (.iload_n 2, 1) := dk_28 (dk_at dksX8_swapped_2 5 rfl rfl)
theorem dX8_swapped_54 : decode cX8_swapped 54 = .ok (.invokevirtual 360, 3) := dk_182 1 104 (dk_at dksX8_swapped_2 6 rfl rfl)
theorem dX8_swapped_57 : decode cX8_swapped 57 = .ok (.ifCond .le 14, 3) := dk_158 0 14 (dk_at dksX8_swapped_2 9 rfl rfl)
theorem dX8_swapped_60 : decode cX8_swapped 60 = .ok (.aload_n 0, 1) := dk_42 (dk_at dksX8_swapped_2 12 rfl rfl)
theorem dX8_swapped_61 : decode cX8_swapped 61 = .ok (.bipush 100, 2) := dk_16 100 (dk_at dksX8_swapped_2 13 rfl rfl)
theorem dX8_swapped_63 : decode cX8_swapped 63 = .ok (.iload_n 1, 1) := dk_27 (dk_at dksX8_swapped_2 15 rfl rfl)
theorem dX8_swapped_64 : decode cX8_swapped 64 = .ok (.imul, 1) := dk_104 (dk_at dksX8_swapped_2 16 rfl rfl)
theorem dX8_swapped_65 : decode cX8_swapped 65 = .ok (.iload_n 2, 1) := dk_28 (dk_at dksX8_swapped_2 17 rfl rfl)
theorem dX8_swapped_66 : decode cX8_swapped 66 = .ok (.iadd, 1) := dk_96 (dk_at dksX8_swapped_2 18 rfl rfl)
theorem dX8_swapped_67 : decode cX8_swapped 67 = .ok (.invokevirtual 302, 3) := dk_182 1 46 (dk_at dksX8_swapped_2 19 rfl rfl)
theorem dX8_swapped_70 : decode cX8_swapped 70 = .ok (.ireturn, 1) := dk_172 (dk_at dksX8_swapped_2 22 rfl rfl)
theorem dX8_swapped_71 : decode cX8_swapped 71 = .ok (.iinc 2 1, 3) := dk_132 2 1 (dk_at dksX8_swapped_3 0 rfl rfl)
theorem dX8_swapped_74 : decode cX8_swapped 74 = .ok (.goto (-29), 3) := dk_167 255 227 (dk_at dksX8_swapped_3 3 rfl rfl)
theorem dX8_swapped_77 : decode cX8_swapped 77 = .ok (.iinc 1 1, 3) := dk_132 1 1 (dk_at dksX8_swapped_3 6 rfl rfl)
theorem dX8_swapped_80 : decode cX8_swapped 80 = .ok (.goto (-45), 3) := dk_167 255 211 (dk_at dksX8_swapped_3 9 rfl rfl)
theorem dX8_swapped_83 : decode cX8_swapped 83 = .ok (.aload_n 0, 1) := dk_42 (dk_at dksX8_swapped_3 12 rfl rfl)
theorem dX8_swapped_84 : decode cX8_swapped 84 = .ok (.bipush (-2), 2) := dk_16 254 (dk_at dksX8_swapped_3 13 rfl rfl)
theorem dX8_swapped_86 : decode cX8_swapped 86 = .ok (.invokevirtual 302, 3) := dk_182 1 46 (dk_at dksX8_swapped_3 15 rfl rfl)
theorem dX8_swapped_89 : decode cX8_swapped 89 = .ok (.ireturn, 1) := dk_172 (dk_at dksX8_swapped_3 18 rfl rfl)
abbrev cX8_plan : ByteArray := prog_14_method_67_code
def yX8_plan : MethodName := ⟨RX8, "plan", "(I)I"⟩
def dkwX8_plan_6 : List UInt8 := [100, 21, 4, 100, 104, 122, 6, 126, 79, 132, 4, 1, 167, 255, 228, 42, 28, 182, 1, 46, 172]
abbrev dktX8_plan_6 : List UInt8 := dkwX8_plan_6 ++ []
def dkwX8_plan_5 : List UInt8 := [42, 27, 181, 1, 40, 3, 54, 4, 21, 4, 27, 162, 0, 28, 42, 180, 0, 51, 21, 4, 29, 5, 27, 4]
abbrev dktX8_plan_5 : List UInt8 := dkwX8_plan_5 ++ dktX8_plan_6
def dkwX8_plan_4 : List UInt8 := [21, 5, 61, 21, 4, 62, 132, 4, 1, 167, 255, 193, 28, 2, 160, 0, 10, 42, 16, 6, 182, 1, 27, 172]
abbrev dktX8_plan_4 : List UInt8 := dkwX8_plan_4 ++ dktX8_plan_5
def dkwX8_plan_3 : List UInt8 := [180, 0, 17, 16, 32, 46, 100, 54, 5, 28, 2, 159, 0, 12, 21, 5, 28, 161, 0, 6, 167, 0, 9]
abbrev dktX8_plan_3 : List UInt8 := dkwX8_plan_3 ++ dktX8_plan_4
def dkwX8_plan_2 : List UInt8 := [162, 0, 59, 42, 27, 21, 4, 182, 1, 116, 154, 0, 6, 167, 0, 40, 42, 180, 0, 21, 16, 32, 46, 42]
abbrev dktX8_plan_2 : List UInt8 := dkwX8_plan_2 ++ dktX8_plan_3
def dkwX8_plan_1 : List UInt8 := [154, 0, 9, 42, 5, 182, 1, 27, 172, 2, 61, 3, 62, 3, 54, 4, 21, 4, 4, 5, 27, 104, 120]
abbrev dktX8_plan_1 : List UInt8 := dkwX8_plan_1 ++ dktX8_plan_2
def dkwX8_plan_0 : List UInt8 := [42, 3, 181, 0, 73, 42, 180, 1, 34, 199, 0, 9, 42, 4, 182, 1, 27, 172, 27, 4, 8, 184, 0, 149]
abbrev dktX8_plan_0 : List UInt8 := dkwX8_plan_0 ++ dktX8_plan_1
theorem dksX8_plan_0 : cX8_plan.data.toList.drop 0 = dktX8_plan_0 := by decide +kernel
theorem dksX8_plan_1 : cX8_plan.data.toList.drop 24 = dktX8_plan_1 := dk_seg dksX8_plan_0 24 rfl rfl
theorem dksX8_plan_2 : cX8_plan.data.toList.drop 47 = dktX8_plan_2 := dk_seg dksX8_plan_1 23 rfl rfl
theorem dksX8_plan_3 : cX8_plan.data.toList.drop 71 = dktX8_plan_3 := dk_seg dksX8_plan_2 24 rfl rfl
theorem dksX8_plan_4 : cX8_plan.data.toList.drop 94 = dktX8_plan_4 := dk_seg dksX8_plan_3 23 rfl rfl
theorem dksX8_plan_5 : cX8_plan.data.toList.drop 118 = dktX8_plan_5 := dk_seg dksX8_plan_4 24 rfl rfl
theorem dksX8_plan_6 : cX8_plan.data.toList.drop 142 = dktX8_plan_6 := dk_seg dksX8_plan_5 24 rfl rfl
theorem dX8_plan_0 : decode cX8_plan 0 = .ok (.aload_n 0, 1) := dk_42 (dk_at dksX8_plan_0 0 rfl rfl)
theorem dX8_plan_1 : decode cX8_plan 1 = .ok (.iconst 0, 1) := dk_3 (dk_at dksX8_plan_0 1 rfl rfl)
theorem dX8_plan_2 : decode cX8_plan 2 = .ok (.putfield 73, 3) := dk_181 0 73 (dk_at dksX8_plan_0 2 rfl rfl)
theorem dX8_plan_5 : decode cX8_plan 5 = .ok (.aload_n 0, 1) := dk_42 (dk_at dksX8_plan_0 5 rfl rfl)
theorem dX8_plan_6 : decode cX8_plan 6 = .ok (.getfield 290, 3) := dk_180 1 34 (dk_at dksX8_plan_0 6 rfl rfl)
theorem dX8_plan_9 : decode cX8_plan 9 = .ok (.ifnonnull 9, 3) := dk_199 0 9 (dk_at dksX8_plan_0 9 rfl rfl)
theorem dX8_plan_12 : decode cX8_plan 12 = .ok (.aload_n 0, 1) := dk_42 (dk_at dksX8_plan_0 12 rfl rfl)
theorem dX8_plan_13 : decode cX8_plan 13 = .ok (.iconst 1, 1) := dk_4 (dk_at dksX8_plan_0 13 rfl rfl)
theorem dX8_plan_14 : decode cX8_plan 14 = .ok (.invokevirtual 283, 3) := dk_182 1 27 (dk_at dksX8_plan_0 14 rfl rfl)
theorem dX8_plan_17 : decode cX8_plan 17 = .ok (.ireturn, 1) := dk_172 (dk_at dksX8_plan_0 17 rfl rfl)
theorem dX8_plan_18 : decode cX8_plan 18 = .ok (.iload_n 1, 1) := dk_27 (dk_at dksX8_plan_0 18 rfl rfl)
theorem dX8_plan_19 : decode cX8_plan 19 = .ok (.iconst 1, 1) := dk_4 (dk_at dksX8_plan_0 19 rfl rfl)
theorem dX8_plan_20 : decode cX8_plan 20 = .ok (.iconst 5, 1) := dk_8 (dk_at dksX8_plan_0 20 rfl rfl)
theorem dX8_plan_21 : decode cX8_plan 21 = .ok (.invokestatic 149, 3) := dk_184 0 149 (dk_at dksX8_plan_0 21 rfl rfl)
theorem dX8_plan_24 : decode cX8_plan 24 = .ok (.ifCond .ne 9, 3) := dk_154 0 9 (dk_at dksX8_plan_1 0 rfl rfl)
theorem dX8_plan_27 : decode cX8_plan 27 = .ok (.aload_n 0, 1) := dk_42 (dk_at dksX8_plan_1 3 rfl rfl)
theorem dX8_plan_28 : decode cX8_plan 28 = .ok (.iconst 2, 1) := dk_5 (dk_at dksX8_plan_1 4 rfl rfl)
theorem dX8_plan_29 : decode cX8_plan 29 = .ok (.invokevirtual 283, 3) := dk_182 1 27 (dk_at dksX8_plan_1 5 rfl rfl)
theorem dX8_plan_32 : decode cX8_plan 32 = .ok (.ireturn, 1) := dk_172 (dk_at dksX8_plan_1 8 rfl rfl)
theorem dX8_plan_33 : decode cX8_plan 33 = .ok (.iconst (-1), 1) := dk_2 (dk_at dksX8_plan_1 9 rfl rfl)
theorem dX8_plan_34 : decode cX8_plan 34 = .ok (.istore_n 2, 1) := dk_61 (dk_at dksX8_plan_1 10 rfl rfl)
theorem dX8_plan_35 : decode cX8_plan 35 = .ok (.iconst 0, 1) := dk_3 (dk_at dksX8_plan_1 11 rfl rfl)
theorem dX8_plan_36 : decode cX8_plan 36 = .ok (.istore_n 3, 1) := dk_62 (dk_at dksX8_plan_1 12 rfl rfl)
theorem dX8_plan_37 : decode cX8_plan 37 = .ok (.iconst 0, 1) := dk_3 (dk_at dksX8_plan_1 13 rfl rfl)
theorem dX8_plan_38 : decode cX8_plan 38 = .ok (.istore 4, 2) := dk_54 4 (dk_at dksX8_plan_1 14 rfl rfl)
theorem dX8_plan_40 : decode cX8_plan 40 = .ok (.iload 4, 2) := dk_21 4 (dk_at dksX8_plan_1 16 rfl rfl)
theorem dX8_plan_42 : decode cX8_plan 42 = .ok (.iconst 1, 1) := dk_4 (dk_at dksX8_plan_1 18 rfl rfl)
theorem dX8_plan_43 : decode cX8_plan 43 = .ok (.iconst 2, 1) := dk_5 (dk_at dksX8_plan_1 19 rfl rfl)
theorem dX8_plan_44 : decode cX8_plan 44 = .ok (.iload_n 1, 1) := dk_27 (dk_at dksX8_plan_1 20 rfl rfl)
theorem dX8_plan_45 : decode cX8_plan 45 = .ok (.imul, 1) := dk_104 (dk_at dksX8_plan_1 21 rfl rfl)
theorem dX8_plan_46 : decode cX8_plan 46 = .ok (.ishl, 1) := dk_120 (dk_at dksX8_plan_1 22 rfl rfl)
theorem dX8_plan_47 : decode cX8_plan 47 = .ok (.if_icmp .ge 59, 3) := dk_162 0 59 (dk_at dksX8_plan_2 0 rfl rfl)
theorem dX8_plan_50 : decode cX8_plan 50 = .ok (.aload_n 0, 1) := dk_42 (dk_at dksX8_plan_2 3 rfl rfl)
theorem dX8_plan_51 : decode cX8_plan 51 = .ok (.iload_n 1, 1) := dk_27 (dk_at dksX8_plan_2 4 rfl rfl)
theorem dX8_plan_52 : decode cX8_plan 52 = .ok (.iload 4, 2) := dk_21 4 (dk_at dksX8_plan_2 5 rfl rfl)
theorem dX8_plan_54 : decode cX8_plan 54 = .ok (.invokevirtual 372, 3) := dk_182 1 116 (dk_at dksX8_plan_2 7 rfl rfl)
theorem dX8_plan_57 : decode cX8_plan 57 = .ok (.ifCond .ne 6, 3) := dk_154 0 6 (dk_at dksX8_plan_2 10 rfl rfl)
theorem dX8_plan_60 : decode cX8_plan 60 = .ok (.goto 40, 3) := dk_167 0 40 (dk_at dksX8_plan_2 13 rfl rfl)
theorem dX8_plan_63 : decode cX8_plan 63 = .ok (.aload_n 0, 1) := dk_42 (dk_at dksX8_plan_2 16 rfl rfl)
theorem dX8_plan_64 : decode cX8_plan 64 = .ok (.getfield 21, 3) := dk_180 0 21 (dk_at dksX8_plan_2 17 rfl rfl)
theorem dX8_plan_67 : decode cX8_plan 67 = .ok (.bipush 32, 2) := dk_16 32 (dk_at dksX8_plan_2 20 rfl rfl)
theorem dX8_plan_69 : decode cX8_plan 69 = .ok (.iaload, 1) := dk_46 (dk_at dksX8_plan_2 22 rfl rfl)
theorem dX8_plan_70 : decode cX8_plan 70 = .ok (.aload_n 0, 1) := dk_42 (dk_at dksX8_plan_2 23 rfl rfl)
theorem dX8_plan_71 : decode cX8_plan 71 = .ok (.getfield 17, 3) := dk_180 0 17 (dk_at dksX8_plan_3 0 rfl rfl)
theorem dX8_plan_74 : decode cX8_plan 74 = .ok (.bipush 32, 2) := dk_16 32 (dk_at dksX8_plan_3 3 rfl rfl)
theorem dX8_plan_76 : decode cX8_plan 76 = .ok (.iaload, 1) := dk_46 (dk_at dksX8_plan_3 5 rfl rfl)
theorem dX8_plan_77 : decode cX8_plan 77 = .ok (.isub, 1) := dk_100 (dk_at dksX8_plan_3 6 rfl rfl)
theorem dX8_plan_78 : decode cX8_plan 78 = .ok (.istore 5, 2) := dk_54 5 (dk_at dksX8_plan_3 7 rfl rfl)
theorem dX8_plan_80 : decode cX8_plan 80 = .ok (.iload_n 2, 1) := dk_28 (dk_at dksX8_plan_3 9 rfl rfl)
theorem dX8_plan_81 : decode cX8_plan 81 = .ok (.iconst (-1), 1) := dk_2 (dk_at dksX8_plan_3 10 rfl rfl)
theorem dX8_plan_82 : decode cX8_plan 82 = .ok (.if_icmp .eq 12, 3) := dk_159 0 12 (dk_at dksX8_plan_3 11 rfl rfl)
theorem dX8_plan_85 : decode cX8_plan 85 = .ok (.iload 5, 2) := dk_21 5 (dk_at dksX8_plan_3 14 rfl rfl)
theorem dX8_plan_87 : decode cX8_plan 87 = .ok (.iload_n 2, 1) := dk_28 (dk_at dksX8_plan_3 16 rfl rfl)
theorem dX8_plan_88 : decode cX8_plan 88 = .ok (.if_icmp .lt 6, 3) := dk_161 0 6 (dk_at dksX8_plan_3 17 rfl rfl)
theorem dX8_plan_91 : decode cX8_plan 91 = .ok (.goto 9, 3) := dk_167 0 9 (dk_at dksX8_plan_3 20 rfl rfl)
theorem dX8_plan_94 : decode cX8_plan 94 = .ok (.iload 5, 2) := dk_21 5 (dk_at dksX8_plan_4 0 rfl rfl)
theorem dX8_plan_96 : decode cX8_plan 96 = .ok (.istore_n 2, 1) := dk_61 (dk_at dksX8_plan_4 2 rfl rfl)
theorem dX8_plan_97 : decode cX8_plan 97 = .ok (.iload 4, 2) := dk_21 4 (dk_at dksX8_plan_4 3 rfl rfl)
theorem dX8_plan_99 : decode cX8_plan 99 = .ok (.istore_n 3, 1) := dk_62 (dk_at dksX8_plan_4 5 rfl rfl)
theorem dX8_plan_100 : decode cX8_plan 100 = .ok (.iinc 4 1, 3) := dk_132 4 1 (dk_at dksX8_plan_4 6 rfl rfl)
theorem dX8_plan_103 : decode cX8_plan 103 = .ok (.goto (-63), 3) := dk_167 255 193 (dk_at dksX8_plan_4 9 rfl rfl)
theorem dX8_plan_106 : decode cX8_plan 106 = .ok (.iload_n 2, 1) := dk_28 (dk_at dksX8_plan_4 12 rfl rfl)
theorem dX8_plan_107 : decode cX8_plan 107 = .ok (.iconst (-1), 1) := dk_2 (dk_at dksX8_plan_4 13 rfl rfl)
theorem dX8_plan_108 : decode cX8_plan 108 = .ok (.if_icmp .ne 10, 3) := dk_160 0 10 (dk_at dksX8_plan_4 14 rfl rfl)
theorem dX8_plan_111 : decode cX8_plan 111 = .ok (.aload_n 0, 1) := dk_42 (dk_at dksX8_plan_4 17 rfl rfl)
theorem dX8_plan_112 : decode cX8_plan 112 = .ok (.bipush 6, 2) := dk_16 6 (dk_at dksX8_plan_4 18 rfl rfl)
theorem dX8_plan_114 : decode cX8_plan 114 = .ok (.invokevirtual 283, 3) := dk_182 1 27 (dk_at dksX8_plan_4 20 rfl rfl)
theorem dX8_plan_117 : decode cX8_plan 117 = .ok (.ireturn, 1) := dk_172 (dk_at dksX8_plan_4 23 rfl rfl)
theorem dX8_plan_118 : decode cX8_plan 118 = .ok (.aload_n 0, 1) := dk_42 (dk_at dksX8_plan_5 0 rfl rfl)
theorem dX8_plan_119 : decode cX8_plan 119 = .ok (.iload_n 1, 1) := dk_27 (dk_at dksX8_plan_5 1 rfl rfl)
theorem dX8_plan_120 : decode cX8_plan 120 = .ok (.putfield 296, 3) := dk_181 1 40 (dk_at dksX8_plan_5 2 rfl rfl)
theorem dX8_plan_123 : decode cX8_plan 123 = .ok (.iconst 0, 1) := dk_3 (dk_at dksX8_plan_5 5 rfl rfl)
theorem dX8_plan_124 : decode cX8_plan 124 = .ok (.istore 4, 2) := dk_54 4 (dk_at dksX8_plan_5 6 rfl rfl)
theorem dX8_plan_126 : decode cX8_plan 126 = .ok (.iload 4, 2) := dk_21 4 (dk_at dksX8_plan_5 8 rfl rfl)
theorem dX8_plan_128 : decode cX8_plan 128 = .ok (.iload_n 1, 1) := dk_27 (dk_at dksX8_plan_5 10 rfl rfl)
theorem dX8_plan_129 : decode cX8_plan 129 = .ok (.if_icmp .ge 28, 3) := dk_162 0 28 (dk_at dksX8_plan_5 11 rfl rfl)
theorem dX8_plan_132 : decode cX8_plan 132 = .ok (.aload_n 0, 1) := dk_42 (dk_at dksX8_plan_5 14 rfl rfl)
theorem dX8_plan_133 : decode cX8_plan 133 = .ok (.getfield 51, 3) := dk_180 0 51 (dk_at dksX8_plan_5 15 rfl rfl)
theorem dX8_plan_136 : decode cX8_plan 136 = .ok (.iload 4, 2) := dk_21 4 (dk_at dksX8_plan_5 18 rfl rfl)
theorem dX8_plan_138 : decode cX8_plan 138 = .ok (.iload_n 3, 1) := dk_29 (dk_at dksX8_plan_5 20 rfl rfl)
theorem dX8_plan_139 : decode cX8_plan 139 = .ok (.iconst 2, 1) := dk_5 (dk_at dksX8_plan_5 21 rfl rfl)
theorem dX8_plan_140 : decode cX8_plan 140 = .ok (.iload_n 1, 1) := dk_27 (dk_at dksX8_plan_5 22 rfl rfl)
theorem dX8_plan_141 : decode cX8_plan 141 = .ok (.iconst 1, 1) := dk_4 (dk_at dksX8_plan_5 23 rfl rfl)
theorem dX8_plan_142 : decode cX8_plan 142 = .ok (.isub, 1) := dk_100 (dk_at dksX8_plan_6 0 rfl rfl)
theorem dX8_plan_143 : decode cX8_plan 143 = .ok (.iload 4, 2) := dk_21 4 (dk_at dksX8_plan_6 1 rfl rfl)
theorem dX8_plan_145 : decode cX8_plan 145 = .ok (.isub, 1) := dk_100 (dk_at dksX8_plan_6 3 rfl rfl)
theorem dX8_plan_146 : decode cX8_plan 146 = .ok (.imul, 1) := dk_104 (dk_at dksX8_plan_6 4 rfl rfl)
theorem dX8_plan_147 : decode cX8_plan 147 = .ok (.ishr, 1) := dk_122 (dk_at dksX8_plan_6 5 rfl rfl)
theorem dX8_plan_148 : decode cX8_plan 148 = .ok (.iconst 3, 1) := dk_6 (dk_at dksX8_plan_6 6 rfl rfl)
theorem dX8_plan_149 : decode cX8_plan 149 = .ok (.iand, 1) := dk_126 (dk_at dksX8_plan_6 7 rfl rfl)
theorem dX8_plan_150 : decode cX8_plan 150 = .ok (.iastore, 1) := dk_79 (dk_at dksX8_plan_6 8 rfl rfl)
theorem dX8_plan_151 : decode cX8_plan 151 = .ok (.iinc 4 1, 3) := dk_132 4 1 (dk_at dksX8_plan_6 9 rfl rfl)
theorem dX8_plan_154 : decode cX8_plan 154 = .ok (.goto (-28), 3) := dk_167 255 228 (dk_at dksX8_plan_6 12 rfl rfl)
theorem dX8_plan_157 : decode cX8_plan 157 = .ok (.aload_n 0, 1) := dk_42 (dk_at dksX8_plan_6 15 rfl rfl)
theorem dX8_plan_158 : decode cX8_plan 158 = .ok (.iload_n 2, 1) := dk_28 (dk_at dksX8_plan_6 16 rfl rfl)
theorem dX8_plan_159 : decode cX8_plan 159 = .ok (.invokevirtual 302, 3) := dk_182 1 46 (dk_at dksX8_plan_6 17 rfl rfl)
theorem dX8_plan_162 : decode cX8_plan 162 = .ok (.ireturn, 1) := dk_172 (dk_at dksX8_plan_6 20 rfl rfl)
abbrev cX8_isWell : ByteArray := prog_14_method_66_code
def yX8_isWell : MethodName := ⟨RX8, "isWell", "(II)Z"⟩
def dkwX8_isWell_3 : List UInt8 := [180, 0, 17, 16, 23, 46, 159, 0, 5, 3, 172, 132, 3, 1, 167, 255, 180, 4, 172]
abbrev dktX8_isWell_3 : List UInt8 := dkwX8_isWell_3 ++ []
def dkwX8_isWell_2 : List UInt8 := [182, 1, 76, 42, 180, 0, 21, 16, 26, 46, 4, 159, 0, 20, 42, 180, 0, 21, 16, 23, 46, 42]
abbrev dktX8_isWell_2 : List UInt8 := dkwX8_isWell_2 ++ dktX8_isWell_3
def dkwX8_isWell_1 : List UInt8 := [122, 6, 126, 79, 42, 180, 0, 21, 16, 34, 42, 180, 0, 54, 29, 46, 79, 42, 42, 180, 0, 21]
abbrev dktX8_isWell_1 : List UInt8 := dkwX8_isWell_1 ++ dktX8_isWell_2
def dkwX8_isWell_0 : List UInt8 := [42, 182, 1, 113, 3, 62, 29, 27, 162, 0, 77, 42, 180, 0, 54, 29, 28, 5, 27, 4, 100, 29, 100, 104]
abbrev dktX8_isWell_0 : List UInt8 := dkwX8_isWell_0 ++ dktX8_isWell_1
theorem dksX8_isWell_0 : cX8_isWell.data.toList.drop 0 = dktX8_isWell_0 := by decide +kernel
theorem dksX8_isWell_1 : cX8_isWell.data.toList.drop 24 = dktX8_isWell_1 := dk_seg dksX8_isWell_0 24 rfl rfl
theorem dksX8_isWell_2 : cX8_isWell.data.toList.drop 46 = dktX8_isWell_2 := dk_seg dksX8_isWell_1 22 rfl rfl
theorem dksX8_isWell_3 : cX8_isWell.data.toList.drop 68 = dktX8_isWell_3 := dk_seg dksX8_isWell_2 22 rfl rfl
theorem dX8_isWell_0 : decode cX8_isWell 0 = .ok (.aload_n 0, 1) := dk_42 (dk_at dksX8_isWell_0 0 rfl rfl)
theorem dX8_isWell_1 : decode cX8_isWell 1 = .ok (.invokevirtual 369, 3) := dk_182 1 113 (dk_at dksX8_isWell_0 1 rfl rfl)
theorem dX8_isWell_4 : decode cX8_isWell 4 = .ok (.iconst 0, 1) := dk_3 (dk_at dksX8_isWell_0 4 rfl rfl)
theorem dX8_isWell_5 : decode cX8_isWell 5 = .ok (.istore_n 3, 1) := dk_62 (dk_at dksX8_isWell_0 5 rfl rfl)
theorem dX8_isWell_6 : decode cX8_isWell 6 = .ok (.iload_n 3, 1) := dk_29 (dk_at dksX8_isWell_0 6 rfl rfl)
theorem dX8_isWell_7 : decode cX8_isWell 7 = .ok (.iload_n 1, 1) := dk_27 (dk_at dksX8_isWell_0 7 rfl rfl)
theorem dX8_isWell_8 : decode cX8_isWell 8 = .ok (.if_icmp .ge 77, 3) := dk_162 0 77 (dk_at dksX8_isWell_0 8 rfl rfl)
theorem dX8_isWell_11 : decode cX8_isWell 11 = .ok (.aload_n 0, 1) := dk_42 (dk_at dksX8_isWell_0 11 rfl rfl)
theorem dX8_isWell_12 : decode cX8_isWell 12 = .ok (.getfield 54, 3) := dk_180 0 54 (dk_at dksX8_isWell_0 12 rfl rfl)
theorem dX8_isWell_15 : decode cX8_isWell 15 = .ok (.iload_n 3, 1) := dk_29 (dk_at dksX8_isWell_0 15 rfl rfl)
theorem dX8_isWell_16 : decode cX8_isWell 16 = .ok (.iload_n 2, 1) := dk_28 (dk_at dksX8_isWell_0 16 rfl rfl)
theorem dX8_isWell_17 : decode cX8_isWell 17 = .ok (.iconst 2, 1) := dk_5 (dk_at dksX8_isWell_0 17 rfl rfl)
theorem dX8_isWell_18 : decode cX8_isWell 18 = .ok (.iload_n 1, 1) := dk_27 (dk_at dksX8_isWell_0 18 rfl rfl)
theorem dX8_isWell_19 : decode cX8_isWell 19 = .ok (.iconst 1, 1) := dk_4 (dk_at dksX8_isWell_0 19 rfl rfl)
theorem dX8_isWell_20 : decode cX8_isWell 20 = .ok (.isub, 1) := dk_100 (dk_at dksX8_isWell_0 20 rfl rfl)
theorem dX8_isWell_21 : decode cX8_isWell 21 = .ok (.iload_n 3, 1) := dk_29 (dk_at dksX8_isWell_0 21 rfl rfl)
theorem dX8_isWell_22 : decode cX8_isWell 22 = .ok (.isub, 1) := dk_100 (dk_at dksX8_isWell_0 22 rfl rfl)
theorem dX8_isWell_23 : decode cX8_isWell 23 = .ok (.imul, 1) := dk_104 (dk_at dksX8_isWell_0 23 rfl rfl)
theorem dX8_isWell_24 : decode cX8_isWell 24 = .ok (.ishr, 1) := dk_122 (dk_at dksX8_isWell_1 0 rfl rfl)
theorem dX8_isWell_25 : decode cX8_isWell 25 = .ok (.iconst 3, 1) := dk_6 (dk_at dksX8_isWell_1 1 rfl rfl)
theorem dX8_isWell_26 : decode cX8_isWell 26 = .ok (.iand, 1) := dk_126 (dk_at dksX8_isWell_1 2 rfl rfl)
theorem dX8_isWell_27 : decode cX8_isWell 27 = .ok (.iastore, 1) := dk_79 (dk_at dksX8_isWell_1 3 rfl rfl)
theorem dX8_isWell_28 : decode cX8_isWell 28 = .ok (.aload_n 0, 1) := dk_42 (dk_at dksX8_isWell_1 4 rfl rfl)
theorem dX8_isWell_29 : decode cX8_isWell 29 = .ok (.getfield 21, 3) := dk_180 0 21 (dk_at dksX8_isWell_1 5 rfl rfl)
theorem dX8_isWell_32 : decode cX8_isWell 32 = .ok (.bipush 34, 2) := dk_16 34 (dk_at dksX8_isWell_1 8 rfl rfl)
theorem dX8_isWell_34 : decode cX8_isWell 34 = .ok (.aload_n 0, 1) := dk_42 (dk_at dksX8_isWell_1 10 rfl rfl)
theorem dX8_isWell_35 : decode cX8_isWell 35 = .ok (.getfield 54, 3) := dk_180 0 54 (dk_at dksX8_isWell_1 11 rfl rfl)
theorem dX8_isWell_38 : decode cX8_isWell 38 = .ok (.iload_n 3, 1) := dk_29 (dk_at dksX8_isWell_1 14 rfl rfl)
theorem dX8_isWell_39 : decode cX8_isWell 39 = .ok (.iaload, 1) := dk_46 (dk_at dksX8_isWell_1 15 rfl rfl)
theorem dX8_isWell_40 : decode cX8_isWell 40 = .ok (.iastore, 1) := dk_79 (dk_at dksX8_isWell_1 16 rfl rfl)
theorem dX8_isWell_41 : decode cX8_isWell 41 = .ok (.aload_n 0, 1) := dk_42 (dk_at dksX8_isWell_1 17 rfl rfl)
theorem dX8_isWell_42 : decode cX8_isWell 42 = .ok (.aload_n 0, 1) := dk_42 (dk_at dksX8_isWell_1 18 rfl rfl)
theorem dX8_isWell_43 : decode cX8_isWell 43 = .ok (.getfield 21, 3) := dk_180 0 21 (dk_at dksX8_isWell_1 19 rfl rfl)
theorem dX8_isWell_46 : decode cX8_isWell 46 = .ok (.invokevirtual 332, 3) := dk_182 1 76 (dk_at dksX8_isWell_2 0 rfl rfl)
theorem dX8_isWell_49 : decode cX8_isWell 49 = .ok (.aload_n 0, 1) := dk_42 (dk_at dksX8_isWell_2 3 rfl rfl)
theorem dX8_isWell_50 : decode cX8_isWell 50 = .ok (.getfield 21, 3) := dk_180 0 21 (dk_at dksX8_isWell_2 4 rfl rfl)
theorem dX8_isWell_53 : decode cX8_isWell 53 = .ok (.bipush 26, 2) := dk_16 26 (dk_at dksX8_isWell_2 7 rfl rfl)
theorem dX8_isWell_55 : decode cX8_isWell 55 = .ok (.iaload, 1) := dk_46 (dk_at dksX8_isWell_2 9 rfl rfl)
theorem dX8_isWell_56 : decode cX8_isWell 56 = .ok (.iconst 1, 1) := dk_4 (dk_at dksX8_isWell_2 10 rfl rfl)
theorem dX8_isWell_57 : decode cX8_isWell 57 = .ok (.if_icmp .eq 20, 3) := dk_159 0 20 (dk_at dksX8_isWell_2 11 rfl rfl)
theorem dX8_isWell_60 : decode cX8_isWell 60 = .ok (.aload_n 0, 1) := dk_42 (dk_at dksX8_isWell_2 14 rfl rfl)
theorem dX8_isWell_61 : decode cX8_isWell 61 = .ok (.getfield 21, 3) := dk_180 0 21 (dk_at dksX8_isWell_2 15 rfl rfl)
theorem dX8_isWell_64 : decode cX8_isWell 64 = .ok (.bipush 23, 2) := dk_16 23 (dk_at dksX8_isWell_2 18 rfl rfl)
theorem dX8_isWell_66 : decode cX8_isWell 66 = .ok (.iaload, 1) := dk_46 (dk_at dksX8_isWell_2 20 rfl rfl)
theorem dX8_isWell_67 : decode cX8_isWell 67 = .ok (.aload_n 0, 1) := dk_42 (dk_at dksX8_isWell_2 21 rfl rfl)
theorem dX8_isWell_68 : decode cX8_isWell 68 = .ok (.getfield 17, 3) := dk_180 0 17 (dk_at dksX8_isWell_3 0 rfl rfl)
theorem dX8_isWell_71 : decode cX8_isWell 71 = .ok (.bipush 23, 2) := dk_16 23 (dk_at dksX8_isWell_3 3 rfl rfl)
theorem dX8_isWell_73 : decode cX8_isWell 73 = .ok (.iaload, 1) := dk_46 (dk_at dksX8_isWell_3 5 rfl rfl)
theorem dX8_isWell_74 : decode cX8_isWell 74 = .ok (.if_icmp .eq 5, 3) := dk_159 0 5 (dk_at dksX8_isWell_3 6 rfl rfl)
theorem dX8_isWell_77 : decode cX8_isWell 77 = .ok (.iconst 0, 1) := dk_3 (dk_at dksX8_isWell_3 9 rfl rfl)
theorem dX8_isWell_78 : decode cX8_isWell 78 = .ok (.ireturn, 1) := dk_172 (dk_at dksX8_isWell_3 10 rfl rfl)
theorem dX8_isWell_79 : decode cX8_isWell 79 = .ok (.iinc 3 1, 3) := dk_132 3 1 (dk_at dksX8_isWell_3 11 rfl rfl)
theorem dX8_isWell_82 : decode cX8_isWell 82 = .ok (.goto (-76), 3) := dk_167 255 180 (dk_at dksX8_isWell_3 14 rfl rfl)
theorem dX8_isWell_85 : decode cX8_isWell 85 = .ok (.iconst 1, 1) := dk_4 (dk_at dksX8_isWell_3 17 rfl rfl)
theorem dX8_isWell_86 : decode cX8_isWell 86 = .ok (.ireturn, 1) := dk_172 (dk_at dksX8_isWell_3 18 rfl rfl)
abbrev cX8_copies : ByteArray := prog_14_method_65_code
def yX8_copies : MethodName := ⟨RX8, "copies", "()V"⟩
def dkwX8_copies_1 : List UInt8 := [167, 255, 235, 177]
abbrev dktX8_copies_1 : List UInt8 := dkwX8_copies_1 ++ []
def dkwX8_copies_0 : List UInt8 := [3, 60, 27, 16, 37, 162, 0, 21, 42, 180, 0, 21, 27, 42, 180, 0, 17, 27, 46, 79, 132, 1, 1]
abbrev dktX8_copies_0 : List UInt8 := dkwX8_copies_0 ++ dktX8_copies_1
theorem dksX8_copies_0 : cX8_copies.data.toList.drop 0 = dktX8_copies_0 := by decide +kernel
theorem dksX8_copies_1 : cX8_copies.data.toList.drop 23 = dktX8_copies_1 := dk_seg dksX8_copies_0 23 rfl rfl
theorem dX8_copies_0 : decode cX8_copies 0 = .ok (.iconst 0, 1) := dk_3 (dk_at dksX8_copies_0 0 rfl rfl)
theorem dX8_copies_1 : decode cX8_copies 1 = .ok (.istore_n 1, 1) := dk_60 (dk_at dksX8_copies_0 1 rfl rfl)
theorem dX8_copies_2 : decode cX8_copies 2 = .ok (.iload_n 1, 1) := dk_27 (dk_at dksX8_copies_0 2 rfl rfl)
theorem dX8_copies_3 : decode cX8_copies 3 = .ok (.bipush 37, 2) := dk_16 37 (dk_at dksX8_copies_0 3 rfl rfl)
theorem dX8_copies_5 : decode cX8_copies 5 = .ok (.if_icmp .ge 21, 3) := dk_162 0 21 (dk_at dksX8_copies_0 5 rfl rfl)
theorem dX8_copies_8 : decode cX8_copies 8 = .ok (.aload_n 0, 1) := dk_42 (dk_at dksX8_copies_0 8 rfl rfl)
theorem dX8_copies_9 : decode cX8_copies 9 = .ok (.getfield 21, 3) := dk_180 0 21 (dk_at dksX8_copies_0 9 rfl rfl)
theorem dX8_copies_12 : decode cX8_copies 12 = .ok (.iload_n 1, 1) := dk_27 (dk_at dksX8_copies_0 12 rfl rfl)
theorem dX8_copies_13 : decode cX8_copies 13 = .ok (.aload_n 0, 1) := dk_42 (dk_at dksX8_copies_0 13 rfl rfl)
theorem dX8_copies_14 : decode cX8_copies 14 = .ok (.getfield 17, 3) := dk_180 0 17 (dk_at dksX8_copies_0 14 rfl rfl)
theorem dX8_copies_17 : decode cX8_copies 17 = .ok (.iload_n 1, 1) := dk_27 (dk_at dksX8_copies_0 17 rfl rfl)
theorem dX8_copies_18 : decode cX8_copies 18 = .ok (.iaload, 1) := dk_46 (dk_at dksX8_copies_0 18 rfl rfl)
theorem dX8_copies_19 : decode cX8_copies 19 = .ok (.iastore, 1) := dk_79 (dk_at dksX8_copies_0 19 rfl rfl)
theorem dX8_copies_20 : decode cX8_copies 20 = .ok (.iinc 1 1, 3) := dk_132 1 1 (dk_at dksX8_copies_0 20 rfl rfl)
theorem dX8_copies_23 : decode cX8_copies 23 = .ok (.goto (-21), 3) := dk_167 255 235 (dk_at dksX8_copies_1 0 rfl rfl)
theorem dX8_copies_26 : decode cX8_copies 26 = .ok (.return_, 1) := dk_177 (dk_at dksX8_copies_1 3 rfl rfl)
abbrev cX8_rate : ByteArray := prog_14_method_68_code
def yX8_rate : MethodName := ⟨RX8, "rate", "(I)I"⟩
def dkwX8_rate_1 : List UInt8 := [167, 0, 4, 2, 172]
abbrev dktX8_rate_1 : List UInt8 := dkwX8_rate_1 ++ []
def dkwX8_rate_0 : List UInt8 := [42, 3, 181, 0, 73, 27, 155, 0, 20, 27, 42, 180, 1, 40, 162, 0, 12, 42, 180, 0, 51, 27, 46]
abbrev dktX8_rate_0 : List UInt8 := dkwX8_rate_0 ++ dktX8_rate_1
theorem dksX8_rate_0 : cX8_rate.data.toList.drop 0 = dktX8_rate_0 := by decide +kernel
theorem dksX8_rate_1 : cX8_rate.data.toList.drop 23 = dktX8_rate_1 := dk_seg dksX8_rate_0 23 rfl rfl
theorem dX8_rate_0 : decode cX8_rate 0 = .ok (.aload_n 0, 1) := dk_42 (dk_at dksX8_rate_0 0 rfl rfl)
theorem dX8_rate_1 : decode cX8_rate 1 = .ok (.iconst 0, 1) := dk_3 (dk_at dksX8_rate_0 1 rfl rfl)
theorem dX8_rate_2 : decode cX8_rate 2 = .ok (.putfield 73, 3) := dk_181 0 73 (dk_at dksX8_rate_0 2 rfl rfl)
theorem dX8_rate_5 : decode cX8_rate 5 = .ok (.iload_n 1, 1) := dk_27 (dk_at dksX8_rate_0 5 rfl rfl)
theorem dX8_rate_6 : decode cX8_rate 6 = .ok (.ifCond .lt 20, 3) := dk_155 0 20 (dk_at dksX8_rate_0 6 rfl rfl)
theorem dX8_rate_9 : decode cX8_rate 9 = .ok (.iload_n 1, 1) := dk_27 (dk_at dksX8_rate_0 9 rfl rfl)
theorem dX8_rate_10 : decode cX8_rate 10 = .ok (.aload_n 0, 1) := dk_42 (dk_at dksX8_rate_0 10 rfl rfl)
theorem dX8_rate_11 : decode cX8_rate 11 = .ok (.getfield 296, 3) := dk_180 1 40 (dk_at dksX8_rate_0 11 rfl rfl)
theorem dX8_rate_14 : decode cX8_rate 14 = .ok (.if_icmp .ge 12, 3) := dk_162 0 12 (dk_at dksX8_rate_0 14 rfl rfl)
theorem dX8_rate_17 : decode cX8_rate 17 = .ok (.aload_n 0, 1) := dk_42 (dk_at dksX8_rate_0 17 rfl rfl)
theorem dX8_rate_18 : decode cX8_rate 18 = .ok (.getfield 51, 3) := dk_180 0 51 (dk_at dksX8_rate_0 18 rfl rfl)
theorem dX8_rate_21 : decode cX8_rate 21 = .ok (.iload_n 1, 1) := dk_27 (dk_at dksX8_rate_0 21 rfl rfl)
theorem dX8_rate_22 : decode cX8_rate 22 = .ok (.iaload, 1) := dk_46 (dk_at dksX8_rate_0 22 rfl rfl)
theorem dX8_rate_23 : decode cX8_rate 23 = .ok (.goto 4, 3) := dk_167 0 4 (dk_at dksX8_rate_1 0 rfl rfl)
theorem dX8_rate_26 : decode cX8_rate 26 = .ok (.iconst (-1), 1) := dk_2 (dk_at dksX8_rate_1 3 rfl rfl)
theorem dX8_rate_27 : decode cX8_rate 27 = .ok (.ireturn, 1) := dk_172 (dk_at dksX8_rate_1 4 rfl rfl)
abbrev cX8_rule : ByteArray := prog_14_method_70_code
def yX8_rule : MethodName := ⟨RX8, "rule", "(I)I"⟩
def dkwX8_rule_2 : List UInt8 := [180, 0, 17, 16, 32, 46, 100, 182, 1, 46, 172]
abbrev dktX8_rule_2 : List UInt8 := dkwX8_rule_2 ++ []
def dkwX8_rule_1 : List UInt8 := [154, 0, 9, 42, 5, 182, 1, 27, 172, 42, 27, 182, 1, 119, 42, 42, 180, 0, 21, 16, 32, 46, 42]
abbrev dktX8_rule_1 : List UInt8 := dkwX8_rule_1 ++ dktX8_rule_2
def dkwX8_rule_0 : List UInt8 := [42, 3, 181, 0, 73, 42, 180, 1, 34, 199, 0, 9, 42, 4, 182, 1, 27, 172, 27, 4, 8, 184, 0, 149]
abbrev dktX8_rule_0 : List UInt8 := dkwX8_rule_0 ++ dktX8_rule_1
theorem dksX8_rule_0 : cX8_rule.data.toList.drop 0 = dktX8_rule_0 := by decide +kernel
theorem dksX8_rule_1 : cX8_rule.data.toList.drop 24 = dktX8_rule_1 := dk_seg dksX8_rule_0 24 rfl rfl
theorem dksX8_rule_2 : cX8_rule.data.toList.drop 47 = dktX8_rule_2 := dk_seg dksX8_rule_1 23 rfl rfl
theorem dX8_rule_0 : decode cX8_rule 0 = .ok (.aload_n 0, 1) := dk_42 (dk_at dksX8_rule_0 0 rfl rfl)
theorem dX8_rule_1 : decode cX8_rule 1 = .ok (.iconst 0, 1) := dk_3 (dk_at dksX8_rule_0 1 rfl rfl)
theorem dX8_rule_2 : decode cX8_rule 2 = .ok (.putfield 73, 3) := dk_181 0 73 (dk_at dksX8_rule_0 2 rfl rfl)
theorem dX8_rule_5 : decode cX8_rule 5 = .ok (.aload_n 0, 1) := dk_42 (dk_at dksX8_rule_0 5 rfl rfl)
theorem dX8_rule_6 : decode cX8_rule 6 = .ok (.getfield 290, 3) := dk_180 1 34 (dk_at dksX8_rule_0 6 rfl rfl)
theorem dX8_rule_9 : decode cX8_rule 9 = .ok (.ifnonnull 9, 3) := dk_199 0 9 (dk_at dksX8_rule_0 9 rfl rfl)
theorem dX8_rule_12 : decode cX8_rule 12 = .ok (.aload_n 0, 1) := dk_42 (dk_at dksX8_rule_0 12 rfl rfl)
theorem dX8_rule_13 : decode cX8_rule 13 = .ok (.iconst 1, 1) := dk_4 (dk_at dksX8_rule_0 13 rfl rfl)
theorem dX8_rule_14 : decode cX8_rule 14 = .ok (.invokevirtual 283, 3) := dk_182 1 27 (dk_at dksX8_rule_0 14 rfl rfl)
theorem dX8_rule_17 : decode cX8_rule 17 = .ok (.ireturn, 1) := dk_172 (dk_at dksX8_rule_0 17 rfl rfl)
theorem dX8_rule_18 : decode cX8_rule 18 = .ok (.iload_n 1, 1) := dk_27 (dk_at dksX8_rule_0 18 rfl rfl)
theorem dX8_rule_19 : decode cX8_rule 19 = .ok (.iconst 1, 1) := dk_4 (dk_at dksX8_rule_0 19 rfl rfl)
theorem dX8_rule_20 : decode cX8_rule 20 = .ok (.iconst 5, 1) := dk_8 (dk_at dksX8_rule_0 20 rfl rfl)
theorem dX8_rule_21 : decode cX8_rule 21 = .ok (.invokestatic 149, 3) := dk_184 0 149 (dk_at dksX8_rule_0 21 rfl rfl)
theorem dX8_rule_24 : decode cX8_rule 24 = .ok (.ifCond .ne 9, 3) := dk_154 0 9 (dk_at dksX8_rule_1 0 rfl rfl)
theorem dX8_rule_27 : decode cX8_rule 27 = .ok (.aload_n 0, 1) := dk_42 (dk_at dksX8_rule_1 3 rfl rfl)
theorem dX8_rule_28 : decode cX8_rule 28 = .ok (.iconst 2, 1) := dk_5 (dk_at dksX8_rule_1 4 rfl rfl)
theorem dX8_rule_29 : decode cX8_rule 29 = .ok (.invokevirtual 283, 3) := dk_182 1 27 (dk_at dksX8_rule_1 5 rfl rfl)
theorem dX8_rule_32 : decode cX8_rule 32 = .ok (.ireturn, 1) := dk_172 (dk_at dksX8_rule_1 8 rfl rfl)
theorem dX8_rule_33 : decode cX8_rule 33 = .ok (.aload_n 0, 1) := dk_42 (dk_at dksX8_rule_1 9 rfl rfl)
theorem dX8_rule_34 : decode cX8_rule 34 = .ok (.iload_n 1, 1) := dk_27 (dk_at dksX8_rule_1 10 rfl rfl)
theorem dX8_rule_35 : decode cX8_rule 35 = .ok (.invokevirtual 375, 3) := dk_182 1 119 (dk_at dksX8_rule_1 11 rfl rfl)
theorem dX8_rule_38 : decode cX8_rule 38 = .ok (.aload_n 0, 1) := dk_42 (dk_at dksX8_rule_1 14 rfl rfl)
theorem dX8_rule_39 : decode cX8_rule 39 = .ok (.aload_n 0, 1) := dk_42 (dk_at dksX8_rule_1 15 rfl rfl)
theorem dX8_rule_40 : decode cX8_rule 40 = .ok (.getfield 21, 3) := dk_180 0 21 (dk_at dksX8_rule_1 16 rfl rfl)
theorem dX8_rule_43 : decode cX8_rule 43 = .ok (.bipush 32, 2) := dk_16 32 (dk_at dksX8_rule_1 19 rfl rfl)
theorem dX8_rule_45 : decode cX8_rule 45 = .ok (.iaload, 1) := dk_46 (dk_at dksX8_rule_1 21 rfl rfl)
theorem dX8_rule_46 : decode cX8_rule 46 = .ok (.aload_n 0, 1) := dk_42 (dk_at dksX8_rule_1 22 rfl rfl)
theorem dX8_rule_47 : decode cX8_rule 47 = .ok (.getfield 17, 3) := dk_180 0 17 (dk_at dksX8_rule_2 0 rfl rfl)
theorem dX8_rule_50 : decode cX8_rule 50 = .ok (.bipush 32, 2) := dk_16 32 (dk_at dksX8_rule_2 3 rfl rfl)
theorem dX8_rule_52 : decode cX8_rule 52 = .ok (.iaload, 1) := dk_46 (dk_at dksX8_rule_2 5 rfl rfl)
theorem dX8_rule_53 : decode cX8_rule 53 = .ok (.isub, 1) := dk_100 (dk_at dksX8_rule_2 6 rfl rfl)
theorem dX8_rule_54 : decode cX8_rule 54 = .ok (.invokevirtual 302, 3) := dk_182 1 46 (dk_at dksX8_rule_2 7 rfl rfl)
theorem dX8_rule_57 : decode cX8_rule 57 = .ok (.ireturn, 1) := dk_172 (dk_at dksX8_rule_2 10 rfl rfl)
abbrev cX8_rules : ByteArray := prog_14_method_69_code
def yX8_rules : MethodName := ⟨RX8, "rules", "(I)V"⟩
def dkwX8_rules_5 : List UInt8 := [160, 0, 7, 3, 167, 0, 4, 29, 79, 42, 42, 180, 0, 21, 182, 1, 76, 132, 2, 1, 167, 255, 124, 177]
abbrev dktX8_rules_5 : List UInt8 := dkwX8_rules_5 ++ []
def dkwX8_rules_4 : List UInt8 := [16, 23, 46, 160, 0, 6, 21, 4, 62, 132, 4, 1, 167, 255, 165, 42, 180, 0, 21, 16, 34, 29, 2]
abbrev dktX8_rules_4 : List UInt8 := dkwX8_rules_4 ++ dktX8_rules_5
def dkwX8_rules_3 : List UInt8 := [182, 1, 76, 42, 180, 0, 57, 16, 26, 46, 154, 0, 23, 42, 180, 0, 57, 16, 23, 46, 42, 180, 0, 21]
abbrev dktX8_rules_3 : List UInt8 := dkwX8_rules_3 ++ dktX8_rules_4
def dkwX8_rules_2 : List UInt8 := [21, 5, 46, 79, 132, 5, 1, 167, 255, 232, 42, 180, 0, 57, 16, 34, 21, 4, 79, 42, 42, 180, 0, 57]
abbrev dktX8_rules_2 : List UInt8 := dkwX8_rules_2 ++ dktX8_rules_3
def dkwX8_rules_1 : List UInt8 := [160, 0, 86, 3, 54, 5, 21, 5, 16, 37, 162, 0, 23, 42, 180, 0, 57, 21, 5, 42, 180, 0, 21]
abbrev dktX8_rules_1 : List UInt8 := dkwX8_rules_1 ++ dktX8_rules_2
def dkwX8_rules_0 : List UInt8 := [42, 182, 1, 113, 3, 61, 28, 27, 162, 0, 133, 2, 62, 3, 54, 4, 21, 4, 6, 163, 0, 91, 29, 2]
abbrev dktX8_rules_0 : List UInt8 := dkwX8_rules_0 ++ dktX8_rules_1
theorem dksX8_rules_0 : cX8_rules.data.toList.drop 0 = dktX8_rules_0 := by decide +kernel
theorem dksX8_rules_1 : cX8_rules.data.toList.drop 24 = dktX8_rules_1 := dk_seg dksX8_rules_0 24 rfl rfl
theorem dksX8_rules_2 : cX8_rules.data.toList.drop 47 = dktX8_rules_2 := dk_seg dksX8_rules_1 23 rfl rfl
theorem dksX8_rules_3 : cX8_rules.data.toList.drop 71 = dktX8_rules_3 := dk_seg dksX8_rules_2 24 rfl rfl
theorem dksX8_rules_4 : cX8_rules.data.toList.drop 95 = dktX8_rules_4 := dk_seg dksX8_rules_3 24 rfl rfl
theorem dksX8_rules_5 : cX8_rules.data.toList.drop 118 = dktX8_rules_5 := dk_seg dksX8_rules_4 23 rfl rfl
theorem dX8_rules_0 : decode cX8_rules 0 = .ok (.aload_n 0, 1) := dk_42 (dk_at dksX8_rules_0 0 rfl rfl)
theorem dX8_rules_1 : decode cX8_rules 1 = .ok (.invokevirtual 369, 3) := dk_182 1 113 (dk_at dksX8_rules_0 1 rfl rfl)
theorem dX8_rules_4 : decode cX8_rules 4 = .ok (.iconst 0, 1) := dk_3 (dk_at dksX8_rules_0 4 rfl rfl)
theorem dX8_rules_5 : decode cX8_rules 5 = .ok (.istore_n 2, 1) := dk_61 (dk_at dksX8_rules_0 5 rfl rfl)
theorem dX8_rules_6 : decode cX8_rules 6 = .ok (.iload_n 2, 1) := dk_28 (dk_at dksX8_rules_0 6 rfl rfl)
theorem dX8_rules_7 : decode cX8_rules 7 = .ok (.iload_n 1, 1) := dk_27 (dk_at dksX8_rules_0 7 rfl rfl)
theorem dX8_rules_8 : decode cX8_rules 8 = .ok (.if_icmp .ge 133, 3) := dk_162 0 133 (dk_at dksX8_rules_0 8 rfl rfl)
theorem dX8_rules_11 : decode cX8_rules 11 = .ok (.iconst (-1), 1) := dk_2 (dk_at dksX8_rules_0 11 rfl rfl)
theorem dX8_rules_12 : decode cX8_rules 12 = .ok (.istore_n 3, 1) := dk_62 (dk_at dksX8_rules_0 12 rfl rfl)
theorem dX8_rules_13 : decode cX8_rules 13 = .ok (.iconst 0, 1) := dk_3 (dk_at dksX8_rules_0 13 rfl rfl)
theorem dX8_rules_14 : decode cX8_rules 14 = .ok (.istore 4, 2) := dk_54 4 (dk_at dksX8_rules_0 14 rfl rfl)
theorem dX8_rules_16 : decode cX8_rules 16 = .ok (.iload 4, 2) := dk_21 4 (dk_at dksX8_rules_0 16 rfl rfl)
theorem dX8_rules_18 : decode cX8_rules 18 = .ok (.iconst 3, 1) := dk_6 (dk_at dksX8_rules_0 18 rfl rfl)
theorem dX8_rules_19 : decode cX8_rules 19 = .ok (.if_icmp .gt 91, 3) := dk_163 0 91 (dk_at dksX8_rules_0 19 rfl rfl)
theorem dX8_rules_22 : decode cX8_rules 22 = .ok (.iload_n 3, 1) := dk_29 (dk_at dksX8_rules_0 22 rfl rfl)
theorem dX8_rules_23 : decode cX8_rules 23 = .ok (.iconst (-1), 1) := dk_2 (dk_at dksX8_rules_0 23 rfl rfl)
theorem dX8_rules_24 : decode cX8_rules 24 = .ok (.if_icmp .ne 86, 3) := dk_160 0 86 (dk_at dksX8_rules_1 0 rfl rfl)
theorem dX8_rules_27 : decode cX8_rules 27 = .ok (.iconst 0, 1) := dk_3 (dk_at dksX8_rules_1 3 rfl rfl)
theorem dX8_rules_28 : decode cX8_rules 28 = .ok (.istore 5, 2) := dk_54 5 (dk_at dksX8_rules_1 4 rfl rfl)
theorem dX8_rules_30 : decode cX8_rules 30 = .ok (.iload 5, 2) := dk_21 5 (dk_at dksX8_rules_1 6 rfl rfl)
theorem dX8_rules_32 : decode cX8_rules 32 = .ok (.bipush 37, 2) := dk_16 37 (dk_at dksX8_rules_1 8 rfl rfl)
theorem dX8_rules_34 : decode cX8_rules 34 = .ok (.if_icmp .ge 23, 3) := dk_162 0 23 (dk_at dksX8_rules_1 10 rfl rfl)
theorem dX8_rules_37 : decode cX8_rules 37 = .ok (.aload_n 0, 1) := dk_42 (dk_at dksX8_rules_1 13 rfl rfl)
theorem dX8_rules_38 : decode cX8_rules 38 = .ok (.getfield 57, 3) := dk_180 0 57 (dk_at dksX8_rules_1 14 rfl rfl)
theorem dX8_rules_41 : decode cX8_rules 41 = .ok (.iload 5, 2) := dk_21 5 (dk_at dksX8_rules_1 17 rfl rfl)
theorem dX8_rules_43 : decode cX8_rules 43 = .ok (.aload_n 0, 1) := dk_42 (dk_at dksX8_rules_1 19 rfl rfl)
theorem dX8_rules_44 : decode cX8_rules 44 = .ok (.getfield 21, 3) := dk_180 0 21 (dk_at dksX8_rules_1 20 rfl rfl)
theorem dX8_rules_47 : decode cX8_rules 47 = .ok (.iload 5, 2) := dk_21 5 (dk_at dksX8_rules_2 0 rfl rfl)
theorem dX8_rules_49 : decode cX8_rules 49 = .ok (.iaload, 1) := dk_46 (dk_at dksX8_rules_2 2 rfl rfl)
theorem dX8_rules_50 : decode cX8_rules 50 = .ok (.iastore, 1) := dk_79 (dk_at dksX8_rules_2 3 rfl rfl)
theorem dX8_rules_51 : decode cX8_rules 51 = .ok (.iinc 5 1, 3) := dk_132 5 1 (dk_at dksX8_rules_2 4 rfl rfl)
theorem dX8_rules_54 : decode cX8_rules 54 = .ok (.goto (-24), 3) := dk_167 255 232 (dk_at dksX8_rules_2 7 rfl rfl)
theorem dX8_rules_57 : decode cX8_rules 57 = .ok (.aload_n 0, 1) := dk_42 (dk_at dksX8_rules_2 10 rfl rfl)
theorem dX8_rules_58 : decode cX8_rules 58 = .ok (.getfield 57, 3) := dk_180 0 57 (dk_at dksX8_rules_2 11 rfl rfl)
theorem dX8_rules_61 : decode cX8_rules 61 = .ok (.bipush 34, 2) := dk_16 34 (dk_at dksX8_rules_2 14 rfl rfl)
theorem dX8_rules_63 : decode cX8_rules 63 = .ok (.iload 4, 2) := dk_21 4 (dk_at dksX8_rules_2 16 rfl rfl)
theorem dX8_rules_65 : decode cX8_rules 65 = .ok (.iastore, 1) := dk_79 (dk_at dksX8_rules_2 18 rfl rfl)
theorem dX8_rules_66 : decode cX8_rules 66 = .ok (.aload_n 0, 1) := dk_42 (dk_at dksX8_rules_2 19 rfl rfl)
theorem dX8_rules_67 : decode cX8_rules 67 = .ok (.aload_n 0, 1) := dk_42 (dk_at dksX8_rules_2 20 rfl rfl)
theorem dX8_rules_68 : decode cX8_rules 68 = .ok (.getfield 57, 3) := dk_180 0 57 (dk_at dksX8_rules_2 21 rfl rfl)
theorem dX8_rules_71 : decode cX8_rules 71 = .ok (.invokevirtual 332, 3) := dk_182 1 76 (dk_at dksX8_rules_3 0 rfl rfl)
theorem dX8_rules_74 : decode cX8_rules 74 = .ok (.aload_n 0, 1) := dk_42 (dk_at dksX8_rules_3 3 rfl rfl)
theorem dX8_rules_75 : decode cX8_rules 75 = .ok (.getfield 57, 3) := dk_180 0 57 (dk_at dksX8_rules_3 4 rfl rfl)
theorem dX8_rules_78 : decode cX8_rules 78 = .ok (.bipush 26, 2) := dk_16 26 (dk_at dksX8_rules_3 7 rfl rfl)
theorem dX8_rules_80 : decode cX8_rules 80 = .ok (.iaload, 1) := dk_46 (dk_at dksX8_rules_3 9 rfl rfl)
theorem dX8_rules_81 : decode cX8_rules 81 = .ok (.ifCond .ne 23, 3) := dk_154 0 23 (dk_at dksX8_rules_3 10 rfl rfl)
theorem dX8_rules_84 : decode cX8_rules 84 = .ok (.aload_n 0, 1) := dk_42 (dk_at dksX8_rules_3 13 rfl rfl)
theorem dX8_rules_85 : decode cX8_rules 85 = .ok (.getfield 57, 3) := dk_180 0 57 (dk_at dksX8_rules_3 14 rfl rfl)
theorem dX8_rules_88 : decode cX8_rules 88 = .ok (.bipush 23, 2) := dk_16 23 (dk_at dksX8_rules_3 17 rfl rfl)
theorem dX8_rules_90 : decode cX8_rules 90 = .ok (.iaload, 1) := dk_46 (dk_at dksX8_rules_3 19 rfl rfl)
theorem dX8_rules_91 : decode cX8_rules 91 = .ok (.aload_n 0, 1) := dk_42 (dk_at dksX8_rules_3 20 rfl rfl)
theorem dX8_rules_92 : decode cX8_rules 92 = .ok (.getfield 21, 3) := dk_180 0 21 (dk_at dksX8_rules_3 21 rfl rfl)
theorem dX8_rules_95 : decode cX8_rules 95 = .ok (.bipush 23, 2) := dk_16 23 (dk_at dksX8_rules_4 0 rfl rfl)
theorem dX8_rules_97 : decode cX8_rules 97 = .ok (.iaload, 1) := dk_46 (dk_at dksX8_rules_4 2 rfl rfl)
theorem dX8_rules_98 : decode cX8_rules 98 = .ok (.if_icmp .ne 6, 3) := dk_160 0 6 (dk_at dksX8_rules_4 3 rfl rfl)
theorem dX8_rules_101 : decode cX8_rules 101 = .ok (.iload 4, 2) := dk_21 4 (dk_at dksX8_rules_4 6 rfl rfl)
theorem dX8_rules_103 : decode cX8_rules 103 = .ok (.istore_n 3, 1) := dk_62 (dk_at dksX8_rules_4 8 rfl rfl)
theorem dX8_rules_104 : decode cX8_rules 104 = .ok (.iinc 4 1, 3) := dk_132 4 1 (dk_at dksX8_rules_4 9 rfl rfl)
theorem dX8_rules_107 : decode cX8_rules 107 = .ok (.goto (-91), 3) := dk_167 255 165 (dk_at dksX8_rules_4 12 rfl rfl)
theorem dX8_rules_110 : decode cX8_rules 110 = .ok (.aload_n 0, 1) := dk_42 (dk_at dksX8_rules_4 15 rfl rfl)
theorem dX8_rules_111 : decode cX8_rules 111 = .ok (.getfield 21, 3) := dk_180 0 21 (dk_at dksX8_rules_4 16 rfl rfl)
theorem dX8_rules_114 : decode cX8_rules 114 = .ok (.bipush 34, 2) := dk_16 34 (dk_at dksX8_rules_4 19 rfl rfl)
theorem dX8_rules_116 : decode cX8_rules 116 = .ok (.iload_n 3, 1) := dk_29 (dk_at dksX8_rules_4 21 rfl rfl)
theorem dX8_rules_117 : decode cX8_rules 117 = .ok (.iconst (-1), 1) := dk_2 (dk_at dksX8_rules_4 22 rfl rfl)
theorem dX8_rules_118 : decode cX8_rules 118 = .ok (.if_icmp .ne 7, 3) := dk_160 0 7 (dk_at dksX8_rules_5 0 rfl rfl)
theorem dX8_rules_121 : decode cX8_rules 121 = .ok (.iconst 0, 1) := dk_3 (dk_at dksX8_rules_5 3 rfl rfl)
theorem dX8_rules_122 : decode cX8_rules 122 = .ok (.goto 4, 3) := dk_167 0 4 (dk_at dksX8_rules_5 4 rfl rfl)
theorem dX8_rules_125 : decode cX8_rules 125 = .ok (.iload_n 3, 1) := dk_29 (dk_at dksX8_rules_5 7 rfl rfl)
theorem dX8_rules_126 : decode cX8_rules 126 = .ok (.iastore, 1) := dk_79 (dk_at dksX8_rules_5 8 rfl rfl)
theorem dX8_rules_127 : decode cX8_rules 127 = .ok (.aload_n 0, 1) := dk_42 (dk_at dksX8_rules_5 9 rfl rfl)
theorem dX8_rules_128 : decode cX8_rules 128 = .ok (.aload_n 0, 1) := dk_42 (dk_at dksX8_rules_5 10 rfl rfl)
theorem dX8_rules_129 : decode cX8_rules 129 = .ok (.getfield 21, 3) := dk_180 0 21 (dk_at dksX8_rules_5 11 rfl rfl)
theorem dX8_rules_132 : decode cX8_rules 132 = .ok (.invokevirtual 332, 3) := dk_182 1 76 (dk_at dksX8_rules_5 14 rfl rfl)
theorem dX8_rules_135 : decode cX8_rules 135 = .ok (.iinc 2 1, 3) := dk_132 2 1 (dk_at dksX8_rules_5 17 rfl rfl)
theorem dX8_rules_138 : decode cX8_rules 138 = .ok (.goto (-132), 3) := dk_167 255 124 (dk_at dksX8_rules_5 20 rfl rfl)
theorem dX8_rules_141 : decode cX8_rules 141 = .ok (.return_, 1) := dk_177 (dk_at dksX8_rules_5 23 rfl rfl)
abbrev cX8_lacks : ByteArray := prog_14_method_71_code
def yX8_lacks : MethodName := ⟨RX8, "lacks", "(I)I"⟩
def dkwX8_lacks_2 : List UInt8 := [180, 0, 17, 16, 23, 46, 100, 182, 1, 46, 172]
abbrev dktX8_lacks_2 : List UInt8 := dkwX8_lacks_2 ++ []
def dkwX8_lacks_1 : List UInt8 := [154, 0, 9, 42, 5, 182, 1, 27, 172, 42, 27, 182, 1, 119, 42, 42, 180, 0, 21, 16, 23, 46, 42]
abbrev dktX8_lacks_1 : List UInt8 := dkwX8_lacks_1 ++ dktX8_lacks_2
def dkwX8_lacks_0 : List UInt8 := [42, 3, 181, 0, 73, 42, 180, 1, 34, 199, 0, 9, 42, 4, 182, 1, 27, 172, 27, 4, 8, 184, 0, 149]
abbrev dktX8_lacks_0 : List UInt8 := dkwX8_lacks_0 ++ dktX8_lacks_1
theorem dksX8_lacks_0 : cX8_lacks.data.toList.drop 0 = dktX8_lacks_0 := by decide +kernel
theorem dksX8_lacks_1 : cX8_lacks.data.toList.drop 24 = dktX8_lacks_1 := dk_seg dksX8_lacks_0 24 rfl rfl
theorem dksX8_lacks_2 : cX8_lacks.data.toList.drop 47 = dktX8_lacks_2 := dk_seg dksX8_lacks_1 23 rfl rfl
theorem dX8_lacks_0 : decode cX8_lacks 0 = .ok (.aload_n 0, 1) := dk_42 (dk_at dksX8_lacks_0 0 rfl rfl)
theorem dX8_lacks_1 : decode cX8_lacks 1 = .ok (.iconst 0, 1) := dk_3 (dk_at dksX8_lacks_0 1 rfl rfl)
theorem dX8_lacks_2 : decode cX8_lacks 2 = .ok (.putfield 73, 3) := dk_181 0 73 (dk_at dksX8_lacks_0 2 rfl rfl)
theorem dX8_lacks_5 : decode cX8_lacks 5 = .ok (.aload_n 0, 1) := dk_42 (dk_at dksX8_lacks_0 5 rfl rfl)
theorem dX8_lacks_6 : decode cX8_lacks 6 = .ok (.getfield 290, 3) := dk_180 1 34 (dk_at dksX8_lacks_0 6 rfl rfl)
theorem dX8_lacks_9 : decode cX8_lacks 9 = .ok (.ifnonnull 9, 3) := dk_199 0 9 (dk_at dksX8_lacks_0 9 rfl rfl)
theorem dX8_lacks_12 : decode cX8_lacks 12 = .ok (.aload_n 0, 1) := dk_42 (dk_at dksX8_lacks_0 12 rfl rfl)
theorem dX8_lacks_13 : decode cX8_lacks 13 = .ok (.iconst 1, 1) := dk_4 (dk_at dksX8_lacks_0 13 rfl rfl)
theorem dX8_lacks_14 : decode cX8_lacks 14 = .ok (.invokevirtual 283, 3) := dk_182 1 27 (dk_at dksX8_lacks_0 14 rfl rfl)
theorem dX8_lacks_17 : decode cX8_lacks 17 = .ok (.ireturn, 1) := dk_172 (dk_at dksX8_lacks_0 17 rfl rfl)
theorem dX8_lacks_18 : decode cX8_lacks 18 = .ok (.iload_n 1, 1) := dk_27 (dk_at dksX8_lacks_0 18 rfl rfl)
theorem dX8_lacks_19 : decode cX8_lacks 19 = .ok (.iconst 1, 1) := dk_4 (dk_at dksX8_lacks_0 19 rfl rfl)
theorem dX8_lacks_20 : decode cX8_lacks 20 = .ok (.iconst 5, 1) := dk_8 (dk_at dksX8_lacks_0 20 rfl rfl)
theorem dX8_lacks_21 : decode cX8_lacks 21 = .ok (.invokestatic 149, 3) := dk_184 0 149 (dk_at dksX8_lacks_0 21 rfl rfl)
theorem dX8_lacks_24 : decode cX8_lacks 24 = .ok (.ifCond .ne 9, 3) := dk_154 0 9 (dk_at dksX8_lacks_1 0 rfl rfl)
theorem dX8_lacks_27 : decode cX8_lacks 27 = .ok (.aload_n 0, 1) := dk_42 (dk_at dksX8_lacks_1 3 rfl rfl)
theorem dX8_lacks_28 : decode cX8_lacks 28 = .ok (.iconst 2, 1) := dk_5 (dk_at dksX8_lacks_1 4 rfl rfl)
theorem dX8_lacks_29 : decode cX8_lacks 29 = .ok (.invokevirtual 283, 3) := dk_182 1 27 (dk_at dksX8_lacks_1 5 rfl rfl)
theorem dX8_lacks_32 : decode cX8_lacks 32 = .ok (.ireturn, 1) := dk_172 (dk_at dksX8_lacks_1 8 rfl rfl)
theorem dX8_lacks_33 : decode cX8_lacks 33 = .ok (.aload_n 0, 1) := dk_42 (dk_at dksX8_lacks_1 9 rfl rfl)
theorem dX8_lacks_34 : decode cX8_lacks 34 = .ok (.iload_n 1, 1) := dk_27 (dk_at dksX8_lacks_1 10 rfl rfl)
theorem dX8_lacks_35 : decode cX8_lacks 35 = .ok (.invokevirtual 375, 3) := dk_182 1 119 (dk_at dksX8_lacks_1 11 rfl rfl)
theorem dX8_lacks_38 : decode cX8_lacks 38 = .ok (.aload_n 0, 1) := dk_42 (dk_at dksX8_lacks_1 14 rfl rfl)
theorem dX8_lacks_39 : decode cX8_lacks 39 = .ok (.aload_n 0, 1) := dk_42 (dk_at dksX8_lacks_1 15 rfl rfl)
theorem dX8_lacks_40 : decode cX8_lacks 40 = .ok (.getfield 21, 3) := dk_180 0 21 (dk_at dksX8_lacks_1 16 rfl rfl)
theorem dX8_lacks_43 : decode cX8_lacks 43 = .ok (.bipush 23, 2) := dk_16 23 (dk_at dksX8_lacks_1 19 rfl rfl)
theorem dX8_lacks_45 : decode cX8_lacks 45 = .ok (.iaload, 1) := dk_46 (dk_at dksX8_lacks_1 21 rfl rfl)
theorem dX8_lacks_46 : decode cX8_lacks 46 = .ok (.aload_n 0, 1) := dk_42 (dk_at dksX8_lacks_1 22 rfl rfl)
theorem dX8_lacks_47 : decode cX8_lacks 47 = .ok (.getfield 17, 3) := dk_180 0 17 (dk_at dksX8_lacks_2 0 rfl rfl)
theorem dX8_lacks_50 : decode cX8_lacks 50 = .ok (.bipush 23, 2) := dk_16 23 (dk_at dksX8_lacks_2 3 rfl rfl)
theorem dX8_lacks_52 : decode cX8_lacks 52 = .ok (.iaload, 1) := dk_46 (dk_at dksX8_lacks_2 5 rfl rfl)
theorem dX8_lacks_53 : decode cX8_lacks 53 = .ok (.isub, 1) := dk_100 (dk_at dksX8_lacks_2 6 rfl rfl)
theorem dX8_lacks_54 : decode cX8_lacks 54 = .ok (.invokevirtual 302, 3) := dk_182 1 46 (dk_at dksX8_lacks_2 7 rfl rfl)
theorem dX8_lacks_57 : decode cX8_lacks 57 = .ok (.ireturn, 1) := dk_172 (dk_at dksX8_lacks_2 10 rfl rfl)
abbrev cX8_number : ByteArray := prog_14_method_72_code
def yX8_number : MethodName := ⟨RX8, "number", "(ZI)I"⟩
def dkwX8_number_4 : List UInt8 := [29, 46, 182, 1, 46, 172]
abbrev dktX8_number_4 : List UInt8 := dkwX8_number_4 ++ []
def dkwX8_number_3 : List UInt8 := [42, 180, 0, 60, 29, 46, 96, 28, 79, 42, 180, 0, 60, 29, 92, 46, 4, 96, 79, 42, 42, 180, 0, 60]
abbrev dktX8_number_3 : List UInt8 := dkwX8_number_3 ++ dktX8_number_4
def dkwX8_number_2 : List UInt8 := [180, 0, 60, 29, 46, 16, 8, 160, 0, 9, 42, 6, 182, 1, 27, 172, 42, 180, 0, 63, 16, 8, 29, 104]
abbrev dktX8_number_2 : List UInt8 := dkwX8_number_2 ++ dktX8_number_3
def dkwX8_number_1 : List UInt8 := [184, 0, 149, 154, 0, 9, 42, 5, 182, 1, 27, 172, 27, 153, 0, 7, 4, 167, 0, 4, 3, 62, 42]
abbrev dktX8_number_1 : List UInt8 := dkwX8_number_1 ++ dktX8_number_2
def dkwX8_number_0 : List UInt8 := [42, 3, 181, 0, 73, 42, 180, 1, 34, 199, 0, 9, 42, 4, 182, 1, 27, 172, 28, 3, 17, 3, 231]
abbrev dktX8_number_0 : List UInt8 := dkwX8_number_0 ++ dktX8_number_1
theorem dksX8_number_0 : cX8_number.data.toList.drop 0 = dktX8_number_0 := by decide +kernel
theorem dksX8_number_1 : cX8_number.data.toList.drop 23 = dktX8_number_1 := dk_seg dksX8_number_0 23 rfl rfl
theorem dksX8_number_2 : cX8_number.data.toList.drop 46 = dktX8_number_2 := dk_seg dksX8_number_1 23 rfl rfl
theorem dksX8_number_3 : cX8_number.data.toList.drop 70 = dktX8_number_3 := dk_seg dksX8_number_2 24 rfl rfl
theorem dksX8_number_4 : cX8_number.data.toList.drop 94 = dktX8_number_4 := dk_seg dksX8_number_3 24 rfl rfl
theorem dX8_number_0 : decode cX8_number 0 = .ok (.aload_n 0, 1) := dk_42 (dk_at dksX8_number_0 0 rfl rfl)
theorem dX8_number_1 : decode cX8_number 1 = .ok (.iconst 0, 1) := dk_3 (dk_at dksX8_number_0 1 rfl rfl)
theorem dX8_number_2 : decode cX8_number 2 = .ok (.putfield 73, 3) := dk_181 0 73 (dk_at dksX8_number_0 2 rfl rfl)
theorem dX8_number_5 : decode cX8_number 5 = .ok (.aload_n 0, 1) := dk_42 (dk_at dksX8_number_0 5 rfl rfl)
theorem dX8_number_6 : decode cX8_number 6 = .ok (.getfield 290, 3) := dk_180 1 34 (dk_at dksX8_number_0 6 rfl rfl)
theorem dX8_number_9 : decode cX8_number 9 = .ok (.ifnonnull 9, 3) := dk_199 0 9 (dk_at dksX8_number_0 9 rfl rfl)
theorem dX8_number_12 : decode cX8_number 12 = .ok (.aload_n 0, 1) := dk_42 (dk_at dksX8_number_0 12 rfl rfl)
theorem dX8_number_13 : decode cX8_number 13 = .ok (.iconst 1, 1) := dk_4 (dk_at dksX8_number_0 13 rfl rfl)
theorem dX8_number_14 : decode cX8_number 14 = .ok (.invokevirtual 283, 3) := dk_182 1 27 (dk_at dksX8_number_0 14 rfl rfl)
theorem dX8_number_17 : decode cX8_number 17 = .ok (.ireturn, 1) := dk_172 (dk_at dksX8_number_0 17 rfl rfl)
theorem dX8_number_18 : decode cX8_number 18 = .ok (.iload_n 2, 1) := dk_28 (dk_at dksX8_number_0 18 rfl rfl)
theorem dX8_number_19 : decode cX8_number 19 = .ok (.iconst 0, 1) := dk_3 (dk_at dksX8_number_0 19 rfl rfl)
theorem dX8_number_20 : decode cX8_number 20 = .ok (.sipush 999, 3) := dk_17 3 231 (dk_at dksX8_number_0 20 rfl rfl)
theorem dX8_number_23 : decode cX8_number 23 = .ok (.invokestatic 149, 3) := dk_184 0 149 (dk_at dksX8_number_1 0 rfl rfl)
theorem dX8_number_26 : decode cX8_number 26 = .ok (.ifCond .ne 9, 3) := dk_154 0 9 (dk_at dksX8_number_1 3 rfl rfl)
theorem dX8_number_29 : decode cX8_number 29 = .ok (.aload_n 0, 1) := dk_42 (dk_at dksX8_number_1 6 rfl rfl)
theorem dX8_number_30 : decode cX8_number 30 = .ok (.iconst 2, 1) := dk_5 (dk_at dksX8_number_1 7 rfl rfl)
theorem dX8_number_31 : decode cX8_number 31 = .ok (.invokevirtual 283, 3) := dk_182 1 27 (dk_at dksX8_number_1 8 rfl rfl)
theorem dX8_number_34 : decode cX8_number 34 = .ok (.ireturn, 1) := dk_172 (dk_at dksX8_number_1 11 rfl rfl)
theorem dX8_number_35 : decode cX8_number 35 = .ok (.iload_n 1, 1) := dk_27 (dk_at dksX8_number_1 12 rfl rfl)
theorem dX8_number_36 : decode cX8_number 36 = .ok (.ifCond .eq 7, 3) := dk_153 0 7 (dk_at dksX8_number_1 13 rfl rfl)
theorem dX8_number_39 : decode cX8_number 39 = .ok (.iconst 1, 1) := dk_4 (dk_at dksX8_number_1 16 rfl rfl)
theorem dX8_number_40 : decode cX8_number 40 = .ok (.goto 4, 3) := dk_167 0 4 (dk_at dksX8_number_1 17 rfl rfl)
theorem dX8_number_43 : decode cX8_number 43 = .ok (.iconst 0, 1) := dk_3 (dk_at dksX8_number_1 20 rfl rfl)
theorem dX8_number_44 : decode cX8_number 44 = .ok (.istore_n 3, 1) := dk_62 (dk_at dksX8_number_1 21 rfl rfl)
theorem dX8_number_45 : decode cX8_number 45 = .ok (.aload_n 0, 1) := dk_42 (dk_at dksX8_number_1 22 rfl rfl)
theorem dX8_number_46 : decode cX8_number 46 = .ok (.getfield 60, 3) := dk_180 0 60 (dk_at dksX8_number_2 0 rfl rfl)
theorem dX8_number_49 : decode cX8_number 49 = .ok (.iload_n 3, 1) := dk_29 (dk_at dksX8_number_2 3 rfl rfl)
theorem dX8_number_50 : decode cX8_number 50 = .ok (.iaload, 1) := dk_46 (dk_at dksX8_number_2 4 rfl rfl)
theorem dX8_number_51 : decode cX8_number 51 = .ok (.bipush 8, 2) := dk_16 8 (dk_at dksX8_number_2 5 rfl rfl)
theorem dX8_number_53 : decode cX8_number 53 = .ok (.if_icmp .ne 9, 3) := dk_160 0 9 (dk_at dksX8_number_2 7 rfl rfl)
theorem dX8_number_56 : decode cX8_number 56 = .ok (.aload_n 0, 1) := dk_42 (dk_at dksX8_number_2 10 rfl rfl)
theorem dX8_number_57 : decode cX8_number 57 = .ok (.iconst 3, 1) := dk_6 (dk_at dksX8_number_2 11 rfl rfl)
theorem dX8_number_58 : decode cX8_number 58 = .ok (.invokevirtual 283, 3) := dk_182 1 27 (dk_at dksX8_number_2 12 rfl rfl)
theorem dX8_number_61 : decode cX8_number 61 = .ok (.ireturn, 1) := dk_172 (dk_at dksX8_number_2 15 rfl rfl)
theorem dX8_number_62 : decode cX8_number 62 = .ok (.aload_n 0, 1) := dk_42 (dk_at dksX8_number_2 16 rfl rfl)
theorem dX8_number_63 : decode cX8_number 63 = .ok (.getfield 63, 3) := dk_180 0 63 (dk_at dksX8_number_2 17 rfl rfl)
theorem dX8_number_66 : decode cX8_number 66 = .ok (.bipush 8, 2) := dk_16 8 (dk_at dksX8_number_2 20 rfl rfl)
theorem dX8_number_68 : decode cX8_number 68 = .ok (.iload_n 3, 1) := dk_29 (dk_at dksX8_number_2 22 rfl rfl)
theorem dX8_number_69 : decode cX8_number 69 = .ok (.imul, 1) := dk_104 (dk_at dksX8_number_2 23 rfl rfl)
theorem dX8_number_70 : decode cX8_number 70 = .ok (.aload_n 0, 1) := dk_42 (dk_at dksX8_number_3 0 rfl rfl)
theorem dX8_number_71 : decode cX8_number 71 = .ok (.getfield 60, 3) := dk_180 0 60 (dk_at dksX8_number_3 1 rfl rfl)
theorem dX8_number_74 : decode cX8_number 74 = .ok (.iload_n 3, 1) := dk_29 (dk_at dksX8_number_3 4 rfl rfl)
theorem dX8_number_75 : decode cX8_number 75 = .ok (.iaload, 1) := dk_46 (dk_at dksX8_number_3 5 rfl rfl)
theorem dX8_number_76 : decode cX8_number 76 = .ok (.iadd, 1) := dk_96 (dk_at dksX8_number_3 6 rfl rfl)
theorem dX8_number_77 : decode cX8_number 77 = .ok (.iload_n 2, 1) := dk_28 (dk_at dksX8_number_3 7 rfl rfl)
theorem dX8_number_78 : decode cX8_number 78 = .ok (.iastore, 1) := dk_79 (dk_at dksX8_number_3 8 rfl rfl)
theorem dX8_number_79 : decode cX8_number 79 = .ok (.aload_n 0, 1) := dk_42 (dk_at dksX8_number_3 9 rfl rfl)
theorem dX8_number_80 : decode cX8_number 80 = .ok (.getfield 60, 3) := dk_180 0 60 (dk_at dksX8_number_3 10 rfl rfl)
theorem dX8_number_83 : decode cX8_number 83 = .ok (.iload_n 3, 1) := dk_29 (dk_at dksX8_number_3 13 rfl rfl)
theorem dX8_number_84 : decode cX8_number 84 = .ok (.dup2, 1) := dk_92 (dk_at dksX8_number_3 14 rfl rfl)
theorem dX8_number_85 : decode cX8_number 85 = .ok (.iaload, 1) := dk_46 (dk_at dksX8_number_3 15 rfl rfl)
theorem dX8_number_86 : decode cX8_number 86 = .ok (.iconst 1, 1) := dk_4 (dk_at dksX8_number_3 16 rfl rfl)
theorem dX8_number_87 : decode cX8_number 87 = .ok (.iadd, 1) := dk_96 (dk_at dksX8_number_3 17 rfl rfl)
theorem dX8_number_88 : decode cX8_number 88 = .ok (.iastore, 1) := dk_79 (dk_at dksX8_number_3 18 rfl rfl)
theorem dX8_number_89 : decode cX8_number 89 = .ok (.aload_n 0, 1) := dk_42 (dk_at dksX8_number_3 19 rfl rfl)
theorem dX8_number_90 : decode cX8_number 90 = .ok (.aload_n 0, 1) := dk_42 (dk_at dksX8_number_3 20 rfl rfl)
theorem dX8_number_91 : decode cX8_number 91 = .ok (.getfield 60, 3) := dk_180 0 60 (dk_at dksX8_number_3 21 rfl rfl)
theorem dX8_number_94 : decode cX8_number 94 = .ok (.iload_n 3, 1) := dk_29 (dk_at dksX8_number_4 0 rfl rfl)
theorem dX8_number_95 : decode cX8_number 95 = .ok (.iaload, 1) := dk_46 (dk_at dksX8_number_4 1 rfl rfl)
theorem dX8_number_96 : decode cX8_number 96 = .ok (.invokevirtual 302, 3) := dk_182 1 46 (dk_at dksX8_number_4 2 rfl rfl)
theorem dX8_number_99 : decode cX8_number 99 = .ok (.ireturn, 1) := dk_172 (dk_at dksX8_number_4 5 rfl rfl)
abbrev cX8_chance : ByteArray := prog_14_method_75_code
def yX8_chance : MethodName := ⟨RX8, "chance", "()I"⟩
def dkwX8_chance_2 : List UInt8 := [16, 8, 28, 96, 46, 96, 60, 132, 2, 1, 167, 255, 231, 42, 42, 27, 182, 1, 125, 182, 1, 46, 172]
abbrev dktX8_chance_2 : List UInt8 := dkwX8_chance_2 ++ []
def dkwX8_chance_1 : List UInt8 := [8, 182, 1, 27, 172, 3, 60, 3, 61, 28, 42, 180, 0, 60, 4, 46, 162, 0, 21, 27, 42, 180, 0, 63]
abbrev dktX8_chance_1 : List UInt8 := dkwX8_chance_1 ++ dktX8_chance_2
def dkwX8_chance_0 : List UInt8 := [42, 3, 181, 0, 73, 42, 180, 0, 60, 3, 46, 153, 0, 12, 42, 180, 0, 60, 4, 46, 154, 0, 9, 42]
abbrev dktX8_chance_0 : List UInt8 := dkwX8_chance_0 ++ dktX8_chance_1
theorem dksX8_chance_0 : cX8_chance.data.toList.drop 0 = dktX8_chance_0 := by decide +kernel
theorem dksX8_chance_1 : cX8_chance.data.toList.drop 24 = dktX8_chance_1 := dk_seg dksX8_chance_0 24 rfl rfl
theorem dksX8_chance_2 : cX8_chance.data.toList.drop 48 = dktX8_chance_2 := dk_seg dksX8_chance_1 24 rfl rfl
theorem dX8_chance_0 : decode cX8_chance 0 = .ok (.aload_n 0, 1) := dk_42 (dk_at dksX8_chance_0 0 rfl rfl)
theorem dX8_chance_1 : decode cX8_chance 1 = .ok (.iconst 0, 1) := dk_3 (dk_at dksX8_chance_0 1 rfl rfl)
theorem dX8_chance_2 : decode cX8_chance 2 = .ok (.putfield 73, 3) := dk_181 0 73 (dk_at dksX8_chance_0 2 rfl rfl)
theorem dX8_chance_5 : decode cX8_chance 5 = .ok (.aload_n 0, 1) := dk_42 (dk_at dksX8_chance_0 5 rfl rfl)
theorem dX8_chance_6 : decode cX8_chance 6 = .ok (.getfield 60, 3) := dk_180 0 60 (dk_at dksX8_chance_0 6 rfl rfl)
theorem dX8_chance_9 : decode cX8_chance 9 = .ok (.iconst 0, 1) := dk_3 (dk_at dksX8_chance_0 9 rfl rfl)
theorem dX8_chance_10 : decode cX8_chance 10 = .ok (.iaload, 1) := dk_46 (dk_at dksX8_chance_0 10 rfl rfl)
theorem dX8_chance_11 : decode cX8_chance 11 = .ok (.ifCond .eq 12, 3) := dk_153 0 12 (dk_at dksX8_chance_0 11 rfl rfl)
theorem dX8_chance_14 : decode cX8_chance 14 = .ok (.aload_n 0, 1) := dk_42 (dk_at dksX8_chance_0 14 rfl rfl)
theorem dX8_chance_15 : decode cX8_chance 15 = .ok (.getfield 60, 3) := dk_180 0 60 (dk_at dksX8_chance_0 15 rfl rfl)
theorem dX8_chance_18 : decode cX8_chance 18 = .ok (.iconst 1, 1) := dk_4 (dk_at dksX8_chance_0 18 rfl rfl)
theorem dX8_chance_19 : decode cX8_chance 19 = .ok (.iaload, 1) := dk_46 (dk_at dksX8_chance_0 19 rfl rfl)
theorem dX8_chance_20 : decode cX8_chance 20 = .ok (.ifCond .ne 9, 3) := dk_154 0 9 (dk_at dksX8_chance_0 20 rfl rfl)
theorem dX8_chance_23 : decode cX8_chance 23 = .ok (.aload_n 0, 1) := dk_42 (dk_at dksX8_chance_0 23 rfl rfl)
theorem dX8_chance_24 : decode cX8_chance 24 = .ok (.iconst 5, 1) := dk_8 (dk_at dksX8_chance_1 0 rfl rfl)
theorem dX8_chance_25 : decode cX8_chance 25 = .ok (.invokevirtual 283, 3) := dk_182 1 27 (dk_at dksX8_chance_1 1 rfl rfl)
theorem dX8_chance_28 : decode cX8_chance 28 = .ok (.ireturn, 1) := dk_172 (dk_at dksX8_chance_1 4 rfl rfl)
theorem dX8_chance_29 : decode cX8_chance 29 = .ok (.iconst 0, 1) := dk_3 (dk_at dksX8_chance_1 5 rfl rfl)
theorem dX8_chance_30 : decode cX8_chance 30 = .ok (.istore_n 1, 1) := dk_60 (dk_at dksX8_chance_1 6 rfl rfl)
theorem dX8_chance_31 : decode cX8_chance 31 = .ok (.iconst 0, 1) := dk_3 (dk_at dksX8_chance_1 7 rfl rfl)
theorem dX8_chance_32 : decode cX8_chance 32 = .ok (.istore_n 2, 1) := dk_61 (dk_at dksX8_chance_1 8 rfl rfl)
theorem dX8_chance_33 : decode cX8_chance 33 = .ok (.iload_n 2, 1) := dk_28 (dk_at dksX8_chance_1 9 rfl rfl)
theorem dX8_chance_34 : decode cX8_chance 34 = .ok (.aload_n 0, 1) := dk_42 (dk_at dksX8_chance_1 10 rfl rfl)
theorem dX8_chance_35 : decode cX8_chance 35 = .ok (.getfield 60, 3) := dk_180 0 60 (dk_at dksX8_chance_1 11 rfl rfl)
theorem dX8_chance_38 : decode cX8_chance 38 = .ok (.iconst 1, 1) := dk_4 (dk_at dksX8_chance_1 14 rfl rfl)
theorem dX8_chance_39 : decode cX8_chance 39 = .ok (.iaload, 1) := dk_46 (dk_at dksX8_chance_1 15 rfl rfl)
theorem dX8_chance_40 : decode cX8_chance 40 = .ok (.if_icmp .ge 21, 3) := dk_162 0 21 (dk_at dksX8_chance_1 16 rfl rfl)
theorem dX8_chance_43 : decode cX8_chance 43 = .ok (.iload_n 1, 1) := dk_27 (dk_at dksX8_chance_1 19 rfl rfl)
theorem dX8_chance_44 : decode cX8_chance 44 = .ok (.aload_n 0, 1) := dk_42 (dk_at dksX8_chance_1 20 rfl rfl)
theorem dX8_chance_45 : decode cX8_chance 45 = .ok (.getfield 63, 3) := dk_180 0 63 (dk_at dksX8_chance_1 21 rfl rfl)
theorem dX8_chance_48 : decode cX8_chance 48 = .ok (.bipush 8, 2) := dk_16 8 (dk_at dksX8_chance_2 0 rfl rfl)
theorem dX8_chance_50 : decode cX8_chance 50 = .ok (.iload_n 2, 1) := dk_28 (dk_at dksX8_chance_2 2 rfl rfl)
theorem dX8_chance_51 : decode cX8_chance 51 = .ok (.iadd, 1) := dk_96 (dk_at dksX8_chance_2 3 rfl rfl)
theorem dX8_chance_52 : decode cX8_chance 52 = .ok (.iaload, 1) := dk_46 (dk_at dksX8_chance_2 4 rfl rfl)
theorem dX8_chance_53 : decode cX8_chance 53 = .ok (.iadd, 1) := dk_96 (dk_at dksX8_chance_2 5 rfl rfl)
theorem dX8_chance_54 : decode cX8_chance 54 = .ok (.istore_n 1, 1) := dk_60 (dk_at dksX8_chance_2 6 rfl rfl)
theorem dX8_chance_55 : decode cX8_chance 55 = .ok (.iinc 2 1, 3) := dk_132 2 1 (dk_at dksX8_chance_2 7 rfl rfl)
theorem dX8_chance_58 : decode cX8_chance 58 = .ok (.goto (-25), 3) := dk_167 255 231 (dk_at dksX8_chance_2 10 rfl rfl)
theorem dX8_chance_61 : decode cX8_chance 61 = .ok (.aload_n 0, 1) := dk_42 (dk_at dksX8_chance_2 13 rfl rfl)
theorem dX8_chance_62 : decode cX8_chance 62 = .ok (.aload_n 0, 1) := dk_42 (dk_at dksX8_chance_2 14 rfl rfl)
theorem dX8_chance_63 : decode cX8_chance 63 = .ok (.iload_n 1, 1) := dk_27 (dk_at dksX8_chance_2 15 rfl rfl)
theorem dX8_chance_64 : decode cX8_chance 64 = .ok (.invokevirtual 381, 3) := dk_182 1 125 (dk_at dksX8_chance_2 16 rfl rfl)
theorem dX8_chance_67 : decode cX8_chance 67 = .ok (.invokevirtual 302, 3) := dk_182 1 46 (dk_at dksX8_chance_2 19 rfl rfl)
theorem dX8_chance_70 : decode cX8_chance 70 = .ok (.ireturn, 1) := dk_172 (dk_at dksX8_chance_2 22 rfl rfl)
abbrev cX8_splitsFrom : ByteArray := prog_14_method_74_code
def yX8_splitsFrom : MethodName := ⟨RX8, "splitsFrom", "(I)I"⟩
def dkwX8_splitsFrom_5 : List UInt8 := [4, 167, 0, 4, 3, 96, 62, 132, 4, 1, 167, 255, 147, 29, 172]
abbrev dktX8_splitsFrom_5 : List UInt8 := dkwX8_splitsFrom_5 ++ []
def dkwX8_splitsFrom_4 : List UInt8 := [42, 180, 0, 60, 3, 46, 100, 46, 96, 54, 5, 132, 6, 1, 167, 255, 198, 29, 21, 5, 27, 161, 0, 7]
abbrev dktX8_splitsFrom_4 : List UInt8 := dkwX8_splitsFrom_4 ++ dktX8_splitsFrom_5
def dkwX8_splitsFrom_3 : List UInt8 := [180, 0, 63, 21, 6, 42, 180, 0, 60, 3, 46, 162, 0, 8, 21, 6, 167, 0, 15, 16, 8, 21, 6, 96]
abbrev dktX8_splitsFrom_3 : List UInt8 := dkwX8_splitsFrom_3 ++ dktX8_splitsFrom_4
def dkwX8_splitsFrom_2 : List UInt8 := [54, 6, 21, 6, 28, 162, 0, 58, 21, 4, 21, 6, 122, 4, 126, 4, 160, 0, 41, 21, 5, 42]
abbrev dktX8_splitsFrom_2 : List UInt8 := dkwX8_splitsFrom_2 ++ dktX8_splitsFrom_3
def dkwX8_splitsFrom_1 : List UInt8 := [162, 0, 107, 21, 4, 184, 1, 122, 42, 180, 0, 60, 4, 46, 159, 0, 6, 167, 0, 84, 3, 54, 5, 3]
abbrev dktX8_splitsFrom_1 : List UInt8 := dkwX8_splitsFrom_1 ++ dktX8_splitsFrom_2
def dkwX8_splitsFrom_0 : List UInt8 := [42, 180, 0, 60, 3, 46, 42, 180, 0, 60, 4, 46, 96, 61, 3, 62, 3, 54, 4, 21, 4, 4, 28, 120]
abbrev dktX8_splitsFrom_0 : List UInt8 := dkwX8_splitsFrom_0 ++ dktX8_splitsFrom_1
theorem dksX8_splitsFrom_0 : cX8_splitsFrom.data.toList.drop 0 = dktX8_splitsFrom_0 := by decide +kernel
theorem dksX8_splitsFrom_1 : cX8_splitsFrom.data.toList.drop 24 = dktX8_splitsFrom_1 := dk_seg dksX8_splitsFrom_0 24 rfl rfl
theorem dksX8_splitsFrom_2 : cX8_splitsFrom.data.toList.drop 48 = dktX8_splitsFrom_2 := dk_seg dksX8_splitsFrom_1 24 rfl rfl
theorem dksX8_splitsFrom_3 : cX8_splitsFrom.data.toList.drop 70 = dktX8_splitsFrom_3 := dk_seg dksX8_splitsFrom_2 22 rfl rfl
theorem dksX8_splitsFrom_4 : cX8_splitsFrom.data.toList.drop 94 = dktX8_splitsFrom_4 := dk_seg dksX8_splitsFrom_3 24 rfl rfl
theorem dksX8_splitsFrom_5 : cX8_splitsFrom.data.toList.drop 118 = dktX8_splitsFrom_5 := dk_seg dksX8_splitsFrom_4 24 rfl rfl
theorem dX8_splitsFrom_0 : decode cX8_splitsFrom 0 = .ok (.aload_n 0, 1) := dk_42 (dk_at dksX8_splitsFrom_0 0 rfl rfl)
theorem dX8_splitsFrom_1 : decode cX8_splitsFrom 1 = .ok (.getfield 60, 3) := dk_180 0 60 (dk_at dksX8_splitsFrom_0 1 rfl rfl)
theorem dX8_splitsFrom_4 : decode cX8_splitsFrom 4 = .ok (.iconst 0, 1) := dk_3 (dk_at dksX8_splitsFrom_0 4 rfl rfl)
theorem dX8_splitsFrom_5 : decode cX8_splitsFrom 5 = .ok (.iaload, 1) := dk_46 (dk_at dksX8_splitsFrom_0 5 rfl rfl)
theorem dX8_splitsFrom_6 : decode cX8_splitsFrom 6 = .ok (.aload_n 0, 1) := dk_42 (dk_at dksX8_splitsFrom_0 6 rfl rfl)
theorem dX8_splitsFrom_7 : decode cX8_splitsFrom 7 = .ok (.getfield 60, 3) := dk_180 0 60 (dk_at dksX8_splitsFrom_0 7 rfl rfl)
theorem dX8_splitsFrom_10 : decode cX8_splitsFrom 10 = .ok (.iconst 1, 1) := dk_4 (dk_at dksX8_splitsFrom_0 10 rfl rfl)
theorem dX8_splitsFrom_11 : decode cX8_splitsFrom 11 = .ok (.iaload, 1) := dk_46 (dk_at dksX8_splitsFrom_0 11 rfl rfl)
theorem dX8_splitsFrom_12 : decode cX8_splitsFrom 12 = .ok (.iadd, 1) := dk_96 (dk_at dksX8_splitsFrom_0 12 rfl rfl)
theorem dX8_splitsFrom_13 : decode cX8_splitsFrom 13 = .ok (.istore_n 2, 1) := dk_61 (dk_at dksX8_splitsFrom_0 13 rfl rfl)
theorem dX8_splitsFrom_14 : decode cX8_splitsFrom 14 = .ok (.iconst 0, 1) := dk_3 (dk_at dksX8_splitsFrom_0 14 rfl rfl)
theorem dX8_splitsFrom_15 : decode cX8_splitsFrom 15 = .ok (.istore_n 3, 1) := dk_62 (dk_at dksX8_splitsFrom_0 15 rfl rfl)
theorem dX8_splitsFrom_16 : decode cX8_splitsFrom 16 = .ok (.iconst 0, 1) := dk_3 (dk_at dksX8_splitsFrom_0 16 rfl rfl)
theorem dX8_splitsFrom_17 : decode cX8_splitsFrom 17 = .ok (.istore 4, 2) := dk_54 4 (dk_at dksX8_splitsFrom_0 17 rfl rfl)
theorem dX8_splitsFrom_19 : decode cX8_splitsFrom 19 = .ok (.iload 4, 2) := dk_21 4 (dk_at dksX8_splitsFrom_0 19 rfl rfl)
theorem dX8_splitsFrom_21 : decode cX8_splitsFrom 21 = .ok (.iconst 1, 1) := dk_4 (dk_at dksX8_splitsFrom_0 21 rfl rfl)
theorem dX8_splitsFrom_22 : decode cX8_splitsFrom 22 = .ok (.iload_n 2, 1) := dk_28 (dk_at dksX8_splitsFrom_0 22 rfl rfl)
theorem dX8_splitsFrom_23 : decode cX8_splitsFrom 23 = .ok (.ishl, 1) := dk_120 (dk_at dksX8_splitsFrom_0 23 rfl rfl)
theorem dX8_splitsFrom_24 : decode cX8_splitsFrom 24 = .ok (.if_icmp .ge 107, 3) := dk_162 0 107 (dk_at dksX8_splitsFrom_1 0 rfl rfl)
theorem dX8_splitsFrom_27 : decode cX8_splitsFrom 27 = .ok (.iload 4, 2) := dk_21 4 (dk_at dksX8_splitsFrom_1 3 rfl rfl)
theorem dX8_splitsFrom_29 : decode cX8_splitsFrom 29 = .ok (.invokestatic 378, 3) := dk_184 1 122 (dk_at dksX8_splitsFrom_1 5 rfl rfl)
theorem dX8_splitsFrom_32 : decode cX8_splitsFrom 32 = .ok (.aload_n 0, 1) := dk_42 (dk_at dksX8_splitsFrom_1 8 rfl rfl)
theorem dX8_splitsFrom_33 : decode cX8_splitsFrom 33 = .ok (.getfield 60, 3) := dk_180 0 60 (dk_at dksX8_splitsFrom_1 9 rfl rfl)
theorem dX8_splitsFrom_36 : decode cX8_splitsFrom 36 = .ok (.iconst 1, 1) := dk_4 (dk_at dksX8_splitsFrom_1 12 rfl rfl)
theorem dX8_splitsFrom_37 : decode cX8_splitsFrom 37 = .ok (.iaload, 1) := dk_46 (dk_at dksX8_splitsFrom_1 13 rfl rfl)
theorem dX8_splitsFrom_38 : decode cX8_splitsFrom 38 = .ok (.if_icmp .eq 6, 3) := dk_159 0 6 (dk_at dksX8_splitsFrom_1 14 rfl rfl)
theorem dX8_splitsFrom_41 : decode cX8_splitsFrom 41 = .ok (.goto 84, 3) := dk_167 0 84 (dk_at dksX8_splitsFrom_1 17 rfl rfl)
theorem dX8_splitsFrom_44 : decode cX8_splitsFrom 44 = .ok (.iconst 0, 1) := dk_3 (dk_at dksX8_splitsFrom_1 20 rfl rfl)
theorem dX8_splitsFrom_45 : decode cX8_splitsFrom 45 = .ok (.istore 5, 2) := dk_54 5 (dk_at dksX8_splitsFrom_1 21 rfl rfl)
theorem dX8_splitsFrom_47 : decode cX8_splitsFrom 47 = .ok (.iconst 0, 1) := dk_3 (dk_at dksX8_splitsFrom_1 23 rfl rfl)
theorem dX8_splitsFrom_48 : decode cX8_splitsFrom 48 = .ok (.istore 6, 2) := dk_54 6 (dk_at dksX8_splitsFrom_2 0 rfl rfl)
theorem dX8_splitsFrom_50 : decode cX8_splitsFrom 50 = .ok (.iload 6, 2) := dk_21 6 (dk_at dksX8_splitsFrom_2 2 rfl rfl)
theorem dX8_splitsFrom_52 : decode cX8_splitsFrom 52 = .ok (.iload_n 2, 1) := dk_28 (dk_at dksX8_splitsFrom_2 4 rfl rfl)
theorem dX8_splitsFrom_53 : decode cX8_splitsFrom 53 = .ok (.if_icmp .ge 58, 3) := dk_162 0 58 (dk_at dksX8_splitsFrom_2 5 rfl rfl)
theorem dX8_splitsFrom_56 : decode cX8_splitsFrom 56 = .ok (.iload 4, 2) := dk_21 4 (dk_at dksX8_splitsFrom_2 8 rfl rfl)
theorem dX8_splitsFrom_58 : decode cX8_splitsFrom 58 = .ok (.iload 6, 2) := dk_21 6 (dk_at dksX8_splitsFrom_2 10 rfl rfl)
theorem dX8_splitsFrom_60 : decode cX8_splitsFrom 60 = .ok (.ishr, 1) := dk_122 (dk_at dksX8_splitsFrom_2 12 rfl rfl)
theorem dX8_splitsFrom_61 : decode cX8_splitsFrom 61 = .ok (.iconst 1, 1) := dk_4 (dk_at dksX8_splitsFrom_2 13 rfl rfl)
theorem dX8_splitsFrom_62 : decode cX8_splitsFrom 62 = .ok (.iand, 1) := dk_126 (dk_at dksX8_splitsFrom_2 14 rfl rfl)
theorem dX8_splitsFrom_63 : decode cX8_splitsFrom 63 = .ok (.iconst 1, 1) := dk_4 (dk_at dksX8_splitsFrom_2 15 rfl rfl)
theorem dX8_splitsFrom_64 : decode cX8_splitsFrom 64 = .ok (.if_icmp .ne 41, 3) := dk_160 0 41 (dk_at dksX8_splitsFrom_2 16 rfl rfl)
theorem dX8_splitsFrom_67 : decode cX8_splitsFrom 67 = .ok (.iload 5, 2) := dk_21 5 (dk_at dksX8_splitsFrom_2 19 rfl rfl)
theorem dX8_splitsFrom_69 : decode cX8_splitsFrom 69 = .ok (.aload_n 0, 1) := dk_42 (dk_at dksX8_splitsFrom_2 21 rfl rfl)
theorem dX8_splitsFrom_70 : decode cX8_splitsFrom 70 = .ok (.getfield 63, 3) := dk_180 0 63 (dk_at dksX8_splitsFrom_3 0 rfl rfl)
theorem dX8_splitsFrom_73 : decode cX8_splitsFrom 73 = .ok (.iload 6, 2) := dk_21 6 (dk_at dksX8_splitsFrom_3 3 rfl rfl)
theorem dX8_splitsFrom_75 : decode cX8_splitsFrom 75 = .ok (.aload_n 0, 1) := dk_42 (dk_at dksX8_splitsFrom_3 5 rfl rfl)
theorem dX8_splitsFrom_76 : decode cX8_splitsFrom 76 = .ok (.getfield 60, 3) := dk_180 0 60 (dk_at dksX8_splitsFrom_3 6 rfl rfl)
theorem dX8_splitsFrom_79 : decode cX8_splitsFrom 79 = .ok (.iconst 0, 1) := dk_3 (dk_at dksX8_splitsFrom_3 9 rfl rfl)
theorem dX8_splitsFrom_80 : decode cX8_splitsFrom 80 = .ok (.iaload, 1) := dk_46 (dk_at dksX8_splitsFrom_3 10 rfl rfl)
theorem dX8_splitsFrom_81 : decode cX8_splitsFrom 81 = .ok (.if_icmp .ge 8, 3) := dk_162 0 8 (dk_at dksX8_splitsFrom_3 11 rfl rfl)
theorem dX8_splitsFrom_84 : decode cX8_splitsFrom 84 = .ok (.iload 6, 2) := dk_21 6 (dk_at dksX8_splitsFrom_3 14 rfl rfl)
theorem dX8_splitsFrom_86 : decode cX8_splitsFrom 86 = .ok (.goto 15, 3) := dk_167 0 15 (dk_at dksX8_splitsFrom_3 16 rfl rfl)
theorem dX8_splitsFrom_89 : decode cX8_splitsFrom 89 = .ok (.bipush 8, 2) := dk_16 8 (dk_at dksX8_splitsFrom_3 19 rfl rfl)
theorem dX8_splitsFrom_91 : decode cX8_splitsFrom 91 = .ok (.iload 6, 2) := dk_21 6 (dk_at dksX8_splitsFrom_3 21 rfl rfl)
theorem dX8_splitsFrom_93 : decode cX8_splitsFrom 93 = .ok (.iadd, 1) := dk_96 (dk_at dksX8_splitsFrom_3 23 rfl rfl)
theorem dX8_splitsFrom_94 : decode cX8_splitsFrom 94 = .ok (.aload_n 0, 1) := dk_42 (dk_at dksX8_splitsFrom_4 0 rfl rfl)
theorem dX8_splitsFrom_95 : decode cX8_splitsFrom 95 = .ok (.getfield 60, 3) := dk_180 0 60 (dk_at dksX8_splitsFrom_4 1 rfl rfl)
theorem dX8_splitsFrom_98 : decode cX8_splitsFrom 98 = .ok (.iconst 0, 1) := dk_3 (dk_at dksX8_splitsFrom_4 4 rfl rfl)
theorem dX8_splitsFrom_99 : decode cX8_splitsFrom 99 = .ok (.iaload, 1) := dk_46 (dk_at dksX8_splitsFrom_4 5 rfl rfl)
theorem dX8_splitsFrom_100 : decode cX8_splitsFrom 100 = .ok (.isub, 1) := dk_100 (dk_at dksX8_splitsFrom_4 6 rfl rfl)
theorem dX8_splitsFrom_101 : decode cX8_splitsFrom 101 = .ok (.iaload, 1) := dk_46 (dk_at dksX8_splitsFrom_4 7 rfl rfl)
theorem dX8_splitsFrom_102 : decode cX8_splitsFrom 102 = .ok (.iadd, 1) := dk_96 (dk_at dksX8_splitsFrom_4 8 rfl rfl)
theorem dX8_splitsFrom_103 : decode cX8_splitsFrom 103 = .ok (.istore 5, 2) := dk_54 5 (dk_at dksX8_splitsFrom_4 9 rfl rfl)
theorem dX8_splitsFrom_105 : decode cX8_splitsFrom 105 = .ok (.iinc 6 1, 3) := dk_132 6 1 (dk_at dksX8_splitsFrom_4 11 rfl rfl)
theorem dX8_splitsFrom_108 : decode cX8_splitsFrom 108 = .ok (.goto (-58), 3) := dk_167 255 198 (dk_at dksX8_splitsFrom_4 14 rfl rfl)
theorem dX8_splitsFrom_111 : decode cX8_splitsFrom 111 = .ok (.iload_n 3, 1) := dk_29 (dk_at dksX8_splitsFrom_4 17 rfl rfl)
theorem dX8_splitsFrom_112 : decode cX8_splitsFrom 112 = .ok (.iload 5, 2) := dk_21 5 (dk_at dksX8_splitsFrom_4 18 rfl rfl)
theorem dX8_splitsFrom_114 : decode cX8_splitsFrom 114 = .ok (.iload_n 1, 1) := dk_27 (dk_at dksX8_splitsFrom_4 20 rfl rfl)
theorem dX8_splitsFrom_115 : decode cX8_splitsFrom 115 = .ok (.if_icmp .lt 7, 3) := dk_161 0 7 (dk_at dksX8_splitsFrom_4 21 rfl rfl)
theorem dX8_splitsFrom_118 : decode cX8_splitsFrom 118 = .ok (.iconst 1, 1) := dk_4 (dk_at dksX8_splitsFrom_5 0 rfl rfl)
theorem dX8_splitsFrom_119 : decode cX8_splitsFrom 119 = .ok (.goto 4, 3) := dk_167 0 4 (dk_at dksX8_splitsFrom_5 1 rfl rfl)
theorem dX8_splitsFrom_122 : decode cX8_splitsFrom 122 = .ok (.iconst 0, 1) := dk_3 (dk_at dksX8_splitsFrom_5 4 rfl rfl)
theorem dX8_splitsFrom_123 : decode cX8_splitsFrom 123 = .ok (.iadd, 1) := dk_96 (dk_at dksX8_splitsFrom_5 5 rfl rfl)
theorem dX8_splitsFrom_124 : decode cX8_splitsFrom 124 = .ok (.istore_n 3, 1) := dk_62 (dk_at dksX8_splitsFrom_5 6 rfl rfl)
theorem dX8_splitsFrom_125 : decode cX8_splitsFrom 125 = .ok (.iinc 4 1, 3) := dk_132 4 1 (dk_at dksX8_splitsFrom_5 7 rfl rfl)
theorem dX8_splitsFrom_128 : decode cX8_splitsFrom 128 = .ok (.goto (-109), 3) := dk_167 255 147 (dk_at dksX8_splitsFrom_5 10 rfl rfl)
theorem dX8_splitsFrom_131 : decode cX8_splitsFrom 131 = .ok (.iload_n 3, 1) := dk_29 (dk_at dksX8_splitsFrom_5 13 rfl rfl)
theorem dX8_splitsFrom_132 : decode cX8_splitsFrom 132 = .ok (.ireturn, 1) := dk_172 (dk_at dksX8_splitsFrom_5 14 rfl rfl)
abbrev cX8_bits : ByteArray := prog_14_method_73_code
def yX8_bits : MethodName := ⟨RX8, "bits", "(I)I"⟩
def dkwX8_bits_0 : List UInt8 := [3, 60, 26, 61, 28, 153, 0, 15, 132, 1, 1, 28, 28, 4, 100, 126, 61, 167, 255, 243, 27, 172]
abbrev dktX8_bits_0 : List UInt8 := dkwX8_bits_0 ++ []
theorem dksX8_bits_0 : cX8_bits.data.toList.drop 0 = dktX8_bits_0 := by decide +kernel
theorem dX8_bits_0 : decode cX8_bits 0 = .ok (.iconst 0, 1) := dk_3 (dk_at dksX8_bits_0 0 rfl rfl)
theorem dX8_bits_1 : decode cX8_bits 1 = .ok (.istore_n 1, 1) := dk_60 (dk_at dksX8_bits_0 1 rfl rfl)
theorem dX8_bits_2 : decode cX8_bits 2 = .ok (.iload_n 0, 1) := dk_26 (dk_at dksX8_bits_0 2 rfl rfl)
theorem dX8_bits_3 : decode cX8_bits 3 = .ok (.istore_n 2, 1) := dk_61 (dk_at dksX8_bits_0 3 rfl rfl)
theorem dX8_bits_4 : decode cX8_bits 4 = .ok (.iload_n 2, 1) := dk_28 (dk_at dksX8_bits_0 4 rfl rfl)
theorem dX8_bits_5 : decode cX8_bits 5 = .ok (.ifCond .eq 15, 3) := dk_153 0 15 (dk_at dksX8_bits_0 5 rfl rfl)
theorem dX8_bits_8 : decode cX8_bits 8 = .ok (.iinc 1 1, 3) := dk_132 1 1 (dk_at dksX8_bits_0 8 rfl rfl)
theorem dX8_bits_11 : decode cX8_bits 11 = .ok (.iload_n 2, 1) := dk_28 (dk_at dksX8_bits_0 11 rfl rfl)
theorem dX8_bits_12 : decode cX8_bits 12 = .ok (.iload_n 2, 1) := dk_28 (dk_at dksX8_bits_0 12 rfl rfl)
theorem dX8_bits_13 : decode cX8_bits 13 = .ok (.iconst 1, 1) := dk_4 (dk_at dksX8_bits_0 13 rfl rfl)
theorem dX8_bits_14 : decode cX8_bits 14 = .ok (.isub, 1) := dk_100 (dk_at dksX8_bits_0 14 rfl rfl)
theorem dX8_bits_15 : decode cX8_bits 15 = .ok (.iand, 1) := dk_126 (dk_at dksX8_bits_0 15 rfl rfl)
theorem dX8_bits_16 : decode cX8_bits 16 = .ok (.istore_n 2, 1) := dk_61 (dk_at dksX8_bits_0 16 rfl rfl)
theorem dX8_bits_17 : decode cX8_bits 17 = .ok (.goto (-13), 3) := dk_167 255 243 (dk_at dksX8_bits_0 17 rfl rfl)
theorem dX8_bits_20 : decode cX8_bits 20 = .ok (.iload_n 1, 1) := dk_27 (dk_at dksX8_bits_0 20 rfl rfl)
theorem dX8_bits_21 : decode cX8_bits 21 = .ok (.ireturn, 1) := dk_172 (dk_at dksX8_bits_0 21 rfl rfl)
abbrev cX8_splits : ByteArray := prog_14_method_76_code
def yX8_splits : MethodName := ⟨RX8, "splits", "()I"⟩
def dkwX8_splits_1 : List UInt8 := [8, 182, 1, 27, 167, 0, 12, 42, 42, 3, 182, 1, 125, 182, 1, 46, 172]
abbrev dktX8_splits_1 : List UInt8 := dkwX8_splits_1 ++ []
def dkwX8_splits_0 : List UInt8 := [42, 3, 181, 0, 73, 42, 180, 0, 60, 3, 46, 153, 0, 12, 42, 180, 0, 60, 4, 46, 154, 0, 11, 42]
abbrev dktX8_splits_0 : List UInt8 := dkwX8_splits_0 ++ dktX8_splits_1
theorem dksX8_splits_0 : cX8_splits.data.toList.drop 0 = dktX8_splits_0 := by decide +kernel
theorem dksX8_splits_1 : cX8_splits.data.toList.drop 24 = dktX8_splits_1 := dk_seg dksX8_splits_0 24 rfl rfl
theorem dX8_splits_0 : decode cX8_splits 0 = .ok (.aload_n 0, 1) := dk_42 (dk_at dksX8_splits_0 0 rfl rfl)
theorem dX8_splits_1 : decode cX8_splits 1 = .ok (.iconst 0, 1) := dk_3 (dk_at dksX8_splits_0 1 rfl rfl)
theorem dX8_splits_2 : decode cX8_splits 2 = .ok (.putfield 73, 3) := dk_181 0 73 (dk_at dksX8_splits_0 2 rfl rfl)
theorem dX8_splits_5 : decode cX8_splits 5 = .ok (.aload_n 0, 1) := dk_42 (dk_at dksX8_splits_0 5 rfl rfl)
theorem dX8_splits_6 : decode cX8_splits 6 = .ok (.getfield 60, 3) := dk_180 0 60 (dk_at dksX8_splits_0 6 rfl rfl)
theorem dX8_splits_9 : decode cX8_splits 9 = .ok (.iconst 0, 1) := dk_3 (dk_at dksX8_splits_0 9 rfl rfl)
theorem dX8_splits_10 : decode cX8_splits 10 = .ok (.iaload, 1) := dk_46 (dk_at dksX8_splits_0 10 rfl rfl)
theorem dX8_splits_11 : decode cX8_splits 11 = .ok (.ifCond .eq 12, 3) := dk_153 0 12 (dk_at dksX8_splits_0 11 rfl rfl)
theorem dX8_splits_14 : decode cX8_splits 14 = .ok (.aload_n 0, 1) := dk_42 (dk_at dksX8_splits_0 14 rfl rfl)
theorem dX8_splits_15 : decode cX8_splits 15 = .ok (.getfield 60, 3) := dk_180 0 60 (dk_at dksX8_splits_0 15 rfl rfl)
theorem dX8_splits_18 : decode cX8_splits 18 = .ok (.iconst 1, 1) := dk_4 (dk_at dksX8_splits_0 18 rfl rfl)
theorem dX8_splits_19 : decode cX8_splits 19 = .ok (.iaload, 1) := dk_46 (dk_at dksX8_splits_0 19 rfl rfl)
theorem dX8_splits_20 : decode cX8_splits 20 = .ok (.ifCond .ne 11, 3) := dk_154 0 11 (dk_at dksX8_splits_0 20 rfl rfl)
theorem dX8_splits_23 : decode cX8_splits 23 = .ok (.aload_n 0, 1) := dk_42 (dk_at dksX8_splits_0 23 rfl rfl)
theorem dX8_splits_24 : decode cX8_splits 24 = .ok (.iconst 5, 1) := dk_8 (dk_at dksX8_splits_1 0 rfl rfl)
theorem dX8_splits_25 : decode cX8_splits 25 = .ok (.invokevirtual 283, 3) := dk_182 1 27 (dk_at dksX8_splits_1 1 rfl rfl)
theorem dX8_splits_28 : decode cX8_splits 28 = .ok (.goto 12, 3) := dk_167 0 12 (dk_at dksX8_splits_1 4 rfl rfl)
theorem dX8_splits_31 : decode cX8_splits 31 = .ok (.aload_n 0, 1) := dk_42 (dk_at dksX8_splits_1 7 rfl rfl)
theorem dX8_splits_32 : decode cX8_splits 32 = .ok (.aload_n 0, 1) := dk_42 (dk_at dksX8_splits_1 8 rfl rfl)
theorem dX8_splits_33 : decode cX8_splits 33 = .ok (.iconst 0, 1) := dk_3 (dk_at dksX8_splits_1 9 rfl rfl)
theorem dX8_splits_34 : decode cX8_splits 34 = .ok (.invokevirtual 381, 3) := dk_182 1 125 (dk_at dksX8_splits_1 10 rfl rfl)
theorem dX8_splits_37 : decode cX8_splits 37 = .ok (.invokevirtual 302, 3) := dk_182 1 46 (dk_at dksX8_splits_1 13 rfl rfl)
theorem dX8_splits_40 : decode cX8_splits 40 = .ok (.ireturn, 1) := dk_172 (dk_at dksX8_splits_1 16 rfl rfl)
abbrev cX8_clear : ByteArray := prog_14_method_77_code
def yX8_clear : MethodName := ⟨RX8, "clear", "()I"⟩
def dkwX8_clear_1 : List UInt8 := [3, 79, 42, 180, 0, 60, 4, 3, 79, 27, 172]
abbrev dktX8_clear_1 : List UInt8 := dkwX8_clear_1 ++ []
def dkwX8_clear_0 : List UInt8 := [42, 3, 181, 0, 73, 42, 180, 0, 60, 3, 46, 42, 180, 0, 60, 4, 46, 96, 60, 42, 180, 0, 60, 3]
abbrev dktX8_clear_0 : List UInt8 := dkwX8_clear_0 ++ dktX8_clear_1
theorem dksX8_clear_0 : cX8_clear.data.toList.drop 0 = dktX8_clear_0 := by decide +kernel
theorem dksX8_clear_1 : cX8_clear.data.toList.drop 24 = dktX8_clear_1 := dk_seg dksX8_clear_0 24 rfl rfl
theorem dX8_clear_0 : decode cX8_clear 0 = .ok (.aload_n 0, 1) := dk_42 (dk_at dksX8_clear_0 0 rfl rfl)
theorem dX8_clear_1 : decode cX8_clear 1 = .ok (.iconst 0, 1) := dk_3 (dk_at dksX8_clear_0 1 rfl rfl)
theorem dX8_clear_2 : decode cX8_clear 2 = .ok (.putfield 73, 3) := dk_181 0 73 (dk_at dksX8_clear_0 2 rfl rfl)
theorem dX8_clear_5 : decode cX8_clear 5 = .ok (.aload_n 0, 1) := dk_42 (dk_at dksX8_clear_0 5 rfl rfl)
theorem dX8_clear_6 : decode cX8_clear 6 = .ok (.getfield 60, 3) := dk_180 0 60 (dk_at dksX8_clear_0 6 rfl rfl)
theorem dX8_clear_9 : decode cX8_clear 9 = .ok (.iconst 0, 1) := dk_3 (dk_at dksX8_clear_0 9 rfl rfl)
theorem dX8_clear_10 : decode cX8_clear 10 = .ok (.iaload, 1) := dk_46 (dk_at dksX8_clear_0 10 rfl rfl)
theorem dX8_clear_11 : decode cX8_clear 11 = .ok (.aload_n 0, 1) := dk_42 (dk_at dksX8_clear_0 11 rfl rfl)
theorem dX8_clear_12 : decode cX8_clear 12 = .ok (.getfield 60, 3) := dk_180 0 60 (dk_at dksX8_clear_0 12 rfl rfl)
theorem dX8_clear_15 : decode cX8_clear 15 = .ok (.iconst 1, 1) := dk_4 (dk_at dksX8_clear_0 15 rfl rfl)
theorem dX8_clear_16 : decode cX8_clear 16 = .ok (.iaload, 1) := dk_46 (dk_at dksX8_clear_0 16 rfl rfl)
theorem dX8_clear_17 : decode cX8_clear 17 = .ok (.iadd, 1) := dk_96 (dk_at dksX8_clear_0 17 rfl rfl)
theorem dX8_clear_18 : decode cX8_clear 18 = .ok (.istore_n 1, 1) := dk_60 (dk_at dksX8_clear_0 18 rfl rfl)
theorem dX8_clear_19 : decode cX8_clear 19 = .ok (.aload_n 0, 1) := dk_42 (dk_at dksX8_clear_0 19 rfl rfl)
theorem dX8_clear_20 : decode cX8_clear 20 = .ok (.getfield 60, 3) := dk_180 0 60 (dk_at dksX8_clear_0 20 rfl rfl)
theorem dX8_clear_23 : decode cX8_clear 23 = .ok (.iconst 0, 1) := dk_3 (dk_at dksX8_clear_0 23 rfl rfl)
theorem dX8_clear_24 : decode cX8_clear 24 = .ok (.iconst 0, 1) := dk_3 (dk_at dksX8_clear_1 0 rfl rfl)
theorem dX8_clear_25 : decode cX8_clear 25 = .ok (.iastore, 1) := dk_79 (dk_at dksX8_clear_1 1 rfl rfl)
theorem dX8_clear_26 : decode cX8_clear 26 = .ok (.aload_n 0, 1) := dk_42 (dk_at dksX8_clear_1 2 rfl rfl)
theorem dX8_clear_27 : decode cX8_clear 27 = .ok (.getfield 60, 3) := dk_180 0 60 (dk_at dksX8_clear_1 3 rfl rfl)
theorem dX8_clear_30 : decode cX8_clear 30 = .ok (.iconst 1, 1) := dk_4 (dk_at dksX8_clear_1 6 rfl rfl)
theorem dX8_clear_31 : decode cX8_clear 31 = .ok (.iconst 0, 1) := dk_3 (dk_at dksX8_clear_1 7 rfl rfl)
theorem dX8_clear_32 : decode cX8_clear 32 = .ok (.iastore, 1) := dk_79 (dk_at dksX8_clear_1 8 rfl rfl)
theorem dX8_clear_33 : decode cX8_clear 33 = .ok (.iload_n 1, 1) := dk_27 (dk_at dksX8_clear_1 9 rfl rfl)
theorem dX8_clear_34 : decode cX8_clear 34 = .ok (.ireturn, 1) := dk_172 (dk_at dksX8_clear_1 10 rfl rfl)
abbrev cX8_marks : ByteArray := prog_14_method_79_code
def yX8_marks : MethodName := ⟨RX8, "marks", "(IIIIII)I"⟩
def dkwX8_marks_7 : List UInt8 := [167, 255, 220, 42, 22, 7, 136, 182, 1, 46, 172]
abbrev dktX8_marks_7 : List UInt8 := dkwX8_marks_7 ++ []
def dkwX8_marks_6 : List UInt8 := [182, 1, 91, 21, 9, 21, 5, 161, 0, 12, 22, 7, 42, 182, 1, 134, 97, 55, 7, 132, 9, 1]
abbrev dktX8_marks_6 : List UInt8 := dkwX8_marks_6 ++ dktX8_marks_7
def dkwX8_marks_5 : List UInt8 := [167, 255, 218, 9, 55, 7, 3, 54, 9, 21, 9, 21, 6, 163, 0, 35, 42, 42, 180, 0, 21, 21, 9]
abbrev dktX8_marks_5 : List UInt8 := dkwX8_marks_5 ++ dktX8_marks_6
def dkwX8_marks_4 : List UInt8 := [21, 4, 160, 0, 9, 20, 1, 132, 167, 0, 4, 9, 80, 42, 180, 0, 70, 21, 7, 9, 80, 132, 7, 1]
abbrev dktX8_marks_4 : List UInt8 := dkwX8_marks_4 ++ dktX8_marks_5
def dkwX8_marks_3 : List UInt8 := [27, 28, 29, 182, 1, 87, 3, 54, 7, 21, 7, 8, 162, 0, 38, 42, 180, 0, 66, 21, 7, 21, 7]
abbrev dktX8_marks_3 : List UInt8 := dkwX8_marks_3 ++ dktX8_marks_4
def dkwX8_marks_2 : List UInt8 := [184, 1, 110, 153, 0, 10, 21, 6, 21, 5, 162, 0, 9, 42, 5, 182, 1, 27, 172, 42, 42, 180, 0, 21]
abbrev dktX8_marks_2 : List UInt8 := dkwX8_marks_2 ++ dktX8_marks_3
def dkwX8_marks_1 : List UInt8 := [153, 0, 14, 21, 6, 3, 16, 11, 184, 0, 149, 154, 0, 9, 42, 4, 182, 1, 27, 172, 27, 28, 29]
abbrev dktX8_marks_1 : List UInt8 := dkwX8_marks_1 ++ dktX8_marks_2
def dkwX8_marks_0 : List UInt8 := [42, 3, 181, 0, 73, 42, 21, 4, 182, 1, 79, 153, 0, 25, 21, 5, 3, 16, 11, 184, 0, 149]
abbrev dktX8_marks_0 : List UInt8 := dkwX8_marks_0 ++ dktX8_marks_1
theorem dksX8_marks_0 : cX8_marks.data.toList.drop 0 = dktX8_marks_0 := by decide +kernel
theorem dksX8_marks_1 : cX8_marks.data.toList.drop 22 = dktX8_marks_1 := dk_seg dksX8_marks_0 22 rfl rfl
theorem dksX8_marks_2 : cX8_marks.data.toList.drop 45 = dktX8_marks_2 := dk_seg dksX8_marks_1 23 rfl rfl
theorem dksX8_marks_3 : cX8_marks.data.toList.drop 69 = dktX8_marks_3 := dk_seg dksX8_marks_2 24 rfl rfl
theorem dksX8_marks_4 : cX8_marks.data.toList.drop 92 = dktX8_marks_4 := dk_seg dksX8_marks_3 23 rfl rfl
theorem dksX8_marks_5 : cX8_marks.data.toList.drop 116 = dktX8_marks_5 := dk_seg dksX8_marks_4 24 rfl rfl
theorem dksX8_marks_6 : cX8_marks.data.toList.drop 139 = dktX8_marks_6 := dk_seg dksX8_marks_5 23 rfl rfl
theorem dksX8_marks_7 : cX8_marks.data.toList.drop 161 = dktX8_marks_7 := dk_seg dksX8_marks_6 22 rfl rfl
theorem dX8_marks_0 : decode cX8_marks 0 = .ok (.aload_n 0, 1) := dk_42 (dk_at dksX8_marks_0 0 rfl rfl)
theorem dX8_marks_1 : decode cX8_marks 1 = .ok (.iconst 0, 1) := dk_3 (dk_at dksX8_marks_0 1 rfl rfl)
theorem dX8_marks_2 : decode cX8_marks 2 = .ok (.putfield 73, 3) := dk_181 0 73 (dk_at dksX8_marks_0 2 rfl rfl)
theorem dX8_marks_5 : decode cX8_marks 5 = .ok (.aload_n 0, 1) := dk_42 (dk_at dksX8_marks_0 5 rfl rfl)
theorem dX8_marks_6 : decode cX8_marks 6 = .ok (.iload 4, 2) := dk_21 4 (dk_at dksX8_marks_0 6 rfl rfl)
theorem dX8_marks_8 : decode cX8_marks 8 = .ok (.invokevirtual 335, 3) := dk_182 1 79 (dk_at dksX8_marks_0 8 rfl rfl)
theorem dX8_marks_11 : decode cX8_marks 11 = .ok (.ifCond .eq 25, 3) := dk_153 0 25 (dk_at dksX8_marks_0 11 rfl rfl)
theorem dX8_marks_14 : decode cX8_marks 14 = .ok (.iload 5, 2) := dk_21 5 (dk_at dksX8_marks_0 14 rfl rfl)
theorem dX8_marks_16 : decode cX8_marks 16 = .ok (.iconst 0, 1) := dk_3 (dk_at dksX8_marks_0 16 rfl rfl)
theorem dX8_marks_17 : decode cX8_marks 17 = .ok (.bipush 11, 2) := dk_16 11 (dk_at dksX8_marks_0 17 rfl rfl)
theorem dX8_marks_19 : decode cX8_marks 19 = .ok (.invokestatic 149, 3) := dk_184 0 149 (dk_at dksX8_marks_0 19 rfl rfl)
theorem dX8_marks_22 : decode cX8_marks 22 = .ok (.ifCond .eq 14, 3) := dk_153 0 14 (dk_at dksX8_marks_1 0 rfl rfl)
theorem dX8_marks_25 : decode cX8_marks 25 = .ok (.iload 6, 2) := dk_21 6 (dk_at dksX8_marks_1 3 rfl rfl)
theorem dX8_marks_27 : decode cX8_marks 27 = .ok (.iconst 0, 1) := dk_3 (dk_at dksX8_marks_1 5 rfl rfl)
theorem dX8_marks_28 : decode cX8_marks 28 = .ok (.bipush 11, 2) := dk_16 11 (dk_at dksX8_marks_1 6 rfl rfl)
theorem dX8_marks_30 : decode cX8_marks 30 = .ok (.invokestatic 149, 3) := dk_184 0 149 (dk_at dksX8_marks_1 8 rfl rfl)
theorem dX8_marks_33 : decode cX8_marks 33 = .ok (.ifCond .ne 9, 3) := dk_154 0 9 (dk_at dksX8_marks_1 11 rfl rfl)
theorem dX8_marks_36 : decode cX8_marks 36 = .ok (.aload_n 0, 1) := dk_42 (dk_at dksX8_marks_1 14 rfl rfl)
theorem dX8_marks_37 : decode cX8_marks 37 = .ok (.iconst 1, 1) := dk_4 (dk_at dksX8_marks_1 15 rfl rfl)
theorem dX8_marks_38 : decode cX8_marks 38 = .ok (.invokevirtual 283, 3) := dk_182 1 27 (dk_at dksX8_marks_1 16 rfl rfl)
theorem dX8_marks_41 : decode cX8_marks 41 = .ok (.ireturn, 1) := dk_172 (dk_at dksX8_marks_1 19 rfl rfl)
theorem dX8_marks_42 : decode cX8_marks 42 = .ok (.iload_n 1, 1) := dk_27 (dk_at dksX8_marks_1 20 rfl rfl)
theorem dX8_marks_43 : decode cX8_marks 43 = .ok (.iload_n 2, 1) := dk_28 (dk_at dksX8_marks_1 21 rfl rfl)
theorem dX8_marks_44 : decode cX8_marks 44 = .ok (.iload_n 3, 1) := dk_29 (dk_at dksX8_marks_1 22 rfl rfl)
theorem dX8_marks_45 : decode cX8_marks 45 = .ok (.invokestatic 366, 3) := dk_184 1 110 (dk_at dksX8_marks_2 0 rfl rfl)
theorem dX8_marks_48 : decode cX8_marks 48 = .ok (.ifCond .eq 10, 3) := dk_153 0 10 (dk_at dksX8_marks_2 3 rfl rfl)
theorem dX8_marks_51 : decode cX8_marks 51 = .ok (.iload 6, 2) := dk_21 6 (dk_at dksX8_marks_2 6 rfl rfl)
theorem dX8_marks_53 : decode cX8_marks 53 = .ok (.iload 5, 2) := dk_21 5 (dk_at dksX8_marks_2 8 rfl rfl)
theorem dX8_marks_55 : decode cX8_marks 55 = .ok (.if_icmp .ge 9, 3) := dk_162 0 9 (dk_at dksX8_marks_2 10 rfl rfl)
theorem dX8_marks_58 : decode cX8_marks 58 = .ok (.aload_n 0, 1) := dk_42 (dk_at dksX8_marks_2 13 rfl rfl)
theorem dX8_marks_59 : decode cX8_marks 59 = .ok (.iconst 2, 1) := dk_5 (dk_at dksX8_marks_2 14 rfl rfl)
theorem dX8_marks_60 : decode cX8_marks 60 = .ok (.invokevirtual 283, 3) := dk_182 1 27 (dk_at dksX8_marks_2 15 rfl rfl)
theorem dX8_marks_63 : decode cX8_marks 63 = .ok (.ireturn, 1) := dk_172 (dk_at dksX8_marks_2 18 rfl rfl)
theorem dX8_marks_64 : decode cX8_marks 64 = .ok (.aload_n 0, 1) := dk_42 (dk_at dksX8_marks_2 19 rfl rfl)
theorem dX8_marks_65 : decode cX8_marks 65 = .ok (.aload_n 0, 1) := dk_42 (dk_at dksX8_marks_2 20 rfl rfl)
theorem dX8_marks_66 : decode cX8_marks 66 = .ok (.getfield 21, 3) := dk_180 0 21 (dk_at dksX8_marks_2 21 rfl rfl)
theorem dX8_marks_69 : decode cX8_marks 69 = .ok (.iload_n 1, 1) := dk_27 (dk_at dksX8_marks_3 0 rfl rfl)
theorem dX8_marks_70 : decode cX8_marks 70 = .ok (.iload_n 2, 1) := dk_28 (dk_at dksX8_marks_3 1 rfl rfl)
theorem dX8_marks_71 : decode cX8_marks 71 = .ok (.iload_n 3, 1) := dk_29 (dk_at dksX8_marks_3 2 rfl rfl)
theorem dX8_marks_72 : decode cX8_marks 72 = .ok (.invokevirtual 343, 3) := dk_182 1 87 (dk_at dksX8_marks_3 3 rfl rfl)
theorem dX8_marks_75 : decode cX8_marks 75 = .ok (.iconst 0, 1) := dk_3 (dk_at dksX8_marks_3 6 rfl rfl)
theorem dX8_marks_76 : decode cX8_marks 76 = .ok (.istore 7, 2) := dk_54 7 (dk_at dksX8_marks_3 7 rfl rfl)
theorem dX8_marks_78 : decode cX8_marks 78 = .ok (.iload 7, 2) := dk_21 7 (dk_at dksX8_marks_3 9 rfl rfl)
theorem dX8_marks_80 : decode cX8_marks 80 = .ok (.iconst 5, 1) := dk_8 (dk_at dksX8_marks_3 11 rfl rfl)
theorem dX8_marks_81 : decode cX8_marks 81 = .ok (.if_icmp .ge 38, 3) := dk_162 0 38 (dk_at dksX8_marks_3 12 rfl rfl)
theorem dX8_marks_84 : decode cX8_marks 84 = .ok (.aload_n 0, 1) := dk_42 (dk_at dksX8_marks_3 15 rfl rfl)
theorem dX8_marks_85 : decode cX8_marks 85 = .ok (.getfield 66, 3) := dk_180 0 66 (dk_at dksX8_marks_3 16 rfl rfl)
theorem dX8_marks_88 : decode cX8_marks 88 = .ok (.iload 7, 2) := dk_21 7 (dk_at dksX8_marks_3 19 rfl rfl)
theorem dX8_marks_90 : decode cX8_marks 90 = .ok (.iload 7, 2) := dk_21 7 (dk_at dksX8_marks_3 21 rfl rfl)
theorem dX8_marks_92 : decode cX8_marks 92 = .ok (.iload 4, 2) := dk_21 4 (dk_at dksX8_marks_4 0 rfl rfl)
theorem dX8_marks_94 : decode cX8_marks 94 = .ok (.if_icmp .ne 9, 3) := dk_160 0 9 (dk_at dksX8_marks_4 2 rfl rfl)
theorem dX8_marks_97 : decode cX8_marks 97 = .ok (.ldc2_w 388, 3) := dk_20 1 132 (dk_at dksX8_marks_4 5 rfl rfl)
theorem dX8_marks_100 : decode cX8_marks 100 = .ok (.goto 4, 3) := dk_167 0 4 (dk_at dksX8_marks_4 8 rfl rfl)
theorem dX8_marks_103 : decode cX8_marks 103 = .ok (.lconst 0, 1) := dk_9 (dk_at dksX8_marks_4 11 rfl rfl)
theorem dX8_marks_104 : decode cX8_marks 104 = .ok (.lastore, 1) := dk_80 (dk_at dksX8_marks_4 12 rfl rfl)
theorem dX8_marks_105 : decode cX8_marks 105 = .ok (.aload_n 0, 1) := dk_42 (dk_at dksX8_marks_4 13 rfl rfl)
theorem dX8_marks_106 : decode cX8_marks 106 = .ok (.getfield 70, 3) := dk_180 0 70 (dk_at dksX8_marks_4 14 rfl rfl)
theorem dX8_marks_109 : decode cX8_marks 109 = .ok (.iload 7, 2) := dk_21 7 (dk_at dksX8_marks_4 17 rfl rfl)
theorem dX8_marks_111 : decode cX8_marks 111 = .ok (.lconst 0, 1) := dk_9 (dk_at dksX8_marks_4 19 rfl rfl)
theorem dX8_marks_112 : decode cX8_marks 112 = .ok (.lastore, 1) := dk_80 (dk_at dksX8_marks_4 20 rfl rfl)
theorem dX8_marks_113 : decode cX8_marks 113 = .ok (.iinc 7 1, 3) := dk_132 7 1 (dk_at dksX8_marks_4 21 rfl rfl)
theorem dX8_marks_116 : decode cX8_marks 116 = .ok (.goto (-38), 3) := dk_167 255 218 (dk_at dksX8_marks_5 0 rfl rfl)
theorem dX8_marks_119 : decode cX8_marks 119 = .ok (.lconst 0, 1) := dk_9 (dk_at dksX8_marks_5 3 rfl rfl)
theorem dX8_marks_120 : decode cX8_marks 120 = .ok (.lstore 7, 2) := dk_55 7 (dk_at dksX8_marks_5 4 rfl rfl)
theorem dX8_marks_122 : decode cX8_marks 122 = .ok (.iconst 0, 1) := dk_3 (dk_at dksX8_marks_5 6 rfl rfl)
theorem dX8_marks_123 : decode cX8_marks 123 = .ok (.istore 9, 2) := dk_54 9 (dk_at dksX8_marks_5 7 rfl rfl)
theorem dX8_marks_125 : decode cX8_marks 125 = .ok (.iload 9, 2) := dk_21 9 (dk_at dksX8_marks_5 9 rfl rfl)
theorem dX8_marks_127 : decode cX8_marks 127 = .ok (.iload 6, 2) := dk_21 6 (dk_at dksX8_marks_5 11 rfl rfl)
theorem dX8_marks_129 : decode cX8_marks 129 = .ok (.if_icmp .gt 35, 3) := dk_163 0 35 (dk_at dksX8_marks_5 13 rfl rfl)
theorem dX8_marks_132 : decode cX8_marks 132 = .ok (.aload_n 0, 1) := dk_42 (dk_at dksX8_marks_5 16 rfl rfl)
theorem dX8_marks_133 : decode cX8_marks 133 = .ok (.aload_n 0, 1) := dk_42 (dk_at dksX8_marks_5 17 rfl rfl)
theorem dX8_marks_134 : decode cX8_marks 134 = .ok (.getfield 21, 3) := dk_180 0 21 (dk_at dksX8_marks_5 18 rfl rfl)
theorem dX8_marks_137 : decode cX8_marks 137 = .ok (.iload 9, 2) := dk_21 9 (dk_at dksX8_marks_5 21 rfl rfl)
theorem dX8_marks_139 : decode cX8_marks 139 = .ok (.invokevirtual 347, 3) := dk_182 1 91 (dk_at dksX8_marks_6 0 rfl rfl)
theorem dX8_marks_142 : decode cX8_marks 142 = .ok (.iload 9, 2) := dk_21 9 (dk_at dksX8_marks_6 3 rfl rfl)
theorem dX8_marks_144 : decode cX8_marks 144 = .ok (.iload 5, 2) := dk_21 5 (dk_at dksX8_marks_6 5 rfl rfl)
theorem dX8_marks_146 : decode cX8_marks 146 = .ok (.if_icmp .lt 12, 3) := dk_161 0 12 (dk_at dksX8_marks_6 7 rfl rfl)
theorem dX8_marks_149 : decode cX8_marks 149 = .ok (.lload 7, 2) := dk_22 7 (dk_at dksX8_marks_6 10 rfl rfl)
theorem dX8_marks_151 : decode cX8_marks 151 = .ok (.aload_n 0, 1) := dk_42 (dk_at dksX8_marks_6 12 rfl rfl)
theorem dX8_marks_152 : decode cX8_marks 152 = .ok (.invokevirtual 390, 3) := dk_182 1 134 (dk_at dksX8_marks_6 13 rfl rfl)
theorem dX8_marks_155 : decode cX8_marks 155 = .ok (.ladd, 1) := dk_97 (dk_at dksX8_marks_6 16 rfl rfl)
theorem dX8_marks_156 : decode cX8_marks 156 = .ok (.lstore 7, 2) := dk_55 7 (dk_at dksX8_marks_6 17 rfl rfl)
theorem dX8_marks_158 : decode cX8_marks 158 = .ok (.iinc 9 1, 3) := dk_132 9 1 (dk_at dksX8_marks_6 19 rfl rfl)
theorem dX8_marks_161 : decode cX8_marks 161 = .ok (.goto (-36), 3) := dk_167 255 220 (dk_at dksX8_marks_7 0 rfl rfl)
theorem dX8_marks_164 : decode cX8_marks 164 = .ok (.aload_n 0, 1) := dk_42 (dk_at dksX8_marks_7 3 rfl rfl)
theorem dX8_marks_165 : decode cX8_marks 165 = .ok (.lload 7, 2) := dk_22 7 (dk_at dksX8_marks_7 4 rfl rfl)
theorem dX8_marks_167 : decode cX8_marks 167 = .ok (.l2i, 1) := dk_136 (dk_at dksX8_marks_7 6 rfl rfl)
theorem dX8_marks_168 : decode cX8_marks 168 = .ok (.invokevirtual 302, 3) := dk_182 1 46 (dk_at dksX8_marks_7 7 rfl rfl)
theorem dX8_marks_171 : decode cX8_marks 171 = .ok (.ireturn, 1) := dk_172 (dk_at dksX8_marks_7 10 rfl rfl)
abbrev cX8_leads : ByteArray := prog_14_method_78_code
def yX8_leads : MethodName := ⟨RX8, "leads", "()J"⟩
def dkwX8_leads_11 : List UInt8 := [22, 4, 22, 6, 101, 80, 31, 22, 6, 97, 64, 132, 3, 1, 167, 255, 166, 31, 173]
abbrev dktX8_leads_11 : List UInt8 := dkwX8_leads_11 ++ []
def dkwX8_leads_10 : List UInt8 := [105, 20, 1, 130, 109, 55, 6, 42, 180, 0, 66, 29, 92, 47, 22, 4, 101, 80, 42, 180, 0, 70, 29]
abbrev dktX8_leads_10 : List UInt8 := dkwX8_leads_10 ++ dktX8_leads_11
def dkwX8_leads_9 : List UInt8 := [96, 133, 105, 20, 1, 130, 109, 55, 4, 22, 4, 42, 29, 42, 180, 0, 21, 16, 25, 46, 182, 1, 64, 133]
abbrev dktX8_leads_9 : List UInt8 := dkwX8_leads_9 ++ dktX8_leads_10
def dkwX8_leads_8 : List UInt8 := [180, 0, 191, 162, 0, 85, 42, 180, 0, 66, 29, 47, 16, 20, 16, 10, 42, 180, 0, 21, 16, 35, 46, 104]
abbrev dktX8_leads_8 : List UInt8 := dkwX8_leads_8 ++ dktX8_leads_9
def dkwX8_leads_7 : List UInt8 := [96, 92, 47, 32, 22, 4, 101, 97, 80, 132, 1, 255, 167, 255, 143, 9, 64, 3, 62, 29, 42, 180, 1, 34]
abbrev dktX8_leads_7 : List UInt8 := dkwX8_leads_7 ++ dktX8_leads_8
def dkwX8_leads_6 : List UInt8 := [180, 0, 66, 27, 5, 96, 42, 180, 1, 34, 180, 0, 191, 162, 0, 9, 27, 5, 96, 167, 0, 6, 27, 4]
abbrev dktX8_leads_6 : List UInt8 := dkwX8_leads_6 ++ dktX8_leads_7
def dkwX8_leads_5 : List UInt8 := [180, 0, 66, 27, 92, 47, 32, 101, 80, 42, 180, 0, 66, 27, 4, 96, 92, 47, 22, 4, 97, 80, 42]
abbrev dktX8_leads_5 : List UInt8 := dkwX8_leads_5 ++ dktX8_leads_6
def dkwX8_leads_4 : List UInt8 := [20, 1, 128, 109, 65, 32, 42, 180, 1, 34, 180, 1, 14, 27, 46, 133, 105, 20, 1, 130, 109, 55, 4, 42]
abbrev dktX8_leads_4 : List UInt8 := dkwX8_leads_4 ++ dktX8_leads_5
def dkwX8_leads_3 : List UInt8 := [27, 47, 42, 180, 1, 34, 180, 1, 11, 27, 46, 133, 105, 42, 180, 0, 21, 16, 29, 46, 133, 105]
abbrev dktX8_leads_3 : List UInt8 := dkwX8_leads_3 ++ dktX8_leads_4
def dkwX8_leads_2 : List UInt8 := [4, 160, 0, 5, 9, 173, 42, 180, 1, 34, 180, 0, 191, 5, 100, 60, 27, 155, 0, 115, 42, 180, 0, 66]
abbrev dktX8_leads_2 : List UInt8 := dkwX8_leads_2 ++ dktX8_leads_3
def dkwX8_leads_1 : List UInt8 := [27, 47, 97, 80, 42, 180, 0, 70, 27, 9, 80, 132, 1, 1, 167, 255, 220, 42, 180, 0, 21, 16, 26, 46]
abbrev dktX8_leads_1 : List UInt8 := dkwX8_leads_1 ++ dktX8_leads_2
def dkwX8_leads_0 : List UInt8 := [3, 60, 27, 42, 180, 1, 34, 180, 0, 191, 162, 0, 31, 42, 180, 0, 66, 27, 92, 47, 42, 180, 0, 70]
abbrev dktX8_leads_0 : List UInt8 := dkwX8_leads_0 ++ dktX8_leads_1
theorem dksX8_leads_0 : cX8_leads.data.toList.drop 0 = dktX8_leads_0 := by decide +kernel
theorem dksX8_leads_1 : cX8_leads.data.toList.drop 24 = dktX8_leads_1 := dk_seg dksX8_leads_0 24 rfl rfl
theorem dksX8_leads_2 : cX8_leads.data.toList.drop 48 = dktX8_leads_2 := dk_seg dksX8_leads_1 24 rfl rfl
theorem dksX8_leads_3 : cX8_leads.data.toList.drop 72 = dktX8_leads_3 := dk_seg dksX8_leads_2 24 rfl rfl
theorem dksX8_leads_4 : cX8_leads.data.toList.drop 94 = dktX8_leads_4 := dk_seg dksX8_leads_3 22 rfl rfl
theorem dksX8_leads_5 : cX8_leads.data.toList.drop 118 = dktX8_leads_5 := dk_seg dksX8_leads_4 24 rfl rfl
theorem dksX8_leads_6 : cX8_leads.data.toList.drop 141 = dktX8_leads_6 := dk_seg dksX8_leads_5 23 rfl rfl
theorem dksX8_leads_7 : cX8_leads.data.toList.drop 165 = dktX8_leads_7 := dk_seg dksX8_leads_6 24 rfl rfl
theorem dksX8_leads_8 : cX8_leads.data.toList.drop 189 = dktX8_leads_8 := dk_seg dksX8_leads_7 24 rfl rfl
theorem dksX8_leads_9 : cX8_leads.data.toList.drop 213 = dktX8_leads_9 := dk_seg dksX8_leads_8 24 rfl rfl
theorem dksX8_leads_10 : cX8_leads.data.toList.drop 237 = dktX8_leads_10 := dk_seg dksX8_leads_9 24 rfl rfl
theorem dksX8_leads_11 : cX8_leads.data.toList.drop 260 = dktX8_leads_11 := dk_seg dksX8_leads_10 23 rfl rfl
theorem dX8_leads_0 : decode cX8_leads 0 = .ok (.iconst 0, 1) := dk_3 (dk_at dksX8_leads_0 0 rfl rfl)
theorem dX8_leads_1 : decode cX8_leads 1 = .ok (.istore_n 1, 1) := dk_60 (dk_at dksX8_leads_0 1 rfl rfl)
theorem dX8_leads_2 : decode cX8_leads 2 = .ok (.iload_n 1, 1) := dk_27 (dk_at dksX8_leads_0 2 rfl rfl)
theorem dX8_leads_3 : decode cX8_leads 3 = .ok (.aload_n 0, 1) := dk_42 (dk_at dksX8_leads_0 3 rfl rfl)
theorem dX8_leads_4 : decode cX8_leads 4 = .ok (.getfield 290, 3) := dk_180 1 34 (dk_at dksX8_leads_0 4 rfl rfl)
theorem dX8_leads_7 : decode cX8_leads 7 = .ok (.getfield 191, 3) := dk_180 0 191 (dk_at dksX8_leads_0 7 rfl rfl)
theorem dX8_leads_10 : decode cX8_leads 10 = .ok (.if_icmp .ge 31, 3) := dk_162 0 31 (dk_at dksX8_leads_0 10 rfl rfl)
theorem dX8_leads_13 : decode cX8_leads 13 = .ok (.aload_n 0, 1) := dk_42 (dk_at dksX8_leads_0 13 rfl rfl)
theorem dX8_leads_14 : decode cX8_leads 14 = .ok (.getfield 66, 3) := dk_180 0 66 (dk_at dksX8_leads_0 14 rfl rfl)
theorem dX8_leads_17 : decode cX8_leads 17 = .ok (.iload_n 1, 1) := dk_27 (dk_at dksX8_leads_0 17 rfl rfl)
theorem dX8_leads_18 : decode cX8_leads 18 = .ok (.dup2, 1) := dk_92 (dk_at dksX8_leads_0 18 rfl rfl)
theorem dX8_leads_19 : decode cX8_leads 19 = .ok (.laload, 1) := dk_47 (dk_at dksX8_leads_0 19 rfl rfl)
theorem dX8_leads_20 : decode cX8_leads 20 = .ok (.aload_n 0, 1) := dk_42 (dk_at dksX8_leads_0 20 rfl rfl)
theorem dX8_leads_21 : decode cX8_leads 21 = .ok (.getfield 70, 3) := dk_180 0 70 (dk_at dksX8_leads_0 21 rfl rfl)
theorem dX8_leads_24 : decode cX8_leads 24 = .ok (.iload_n 1, 1) := dk_27 (dk_at dksX8_leads_1 0 rfl rfl)
theorem dX8_leads_25 : decode cX8_leads 25 = .ok (.laload, 1) := dk_47 (dk_at dksX8_leads_1 1 rfl rfl)
theorem dX8_leads_26 : decode cX8_leads 26 = .ok (.ladd, 1) := dk_97 (dk_at dksX8_leads_1 2 rfl rfl)
theorem dX8_leads_27 : decode cX8_leads 27 = .ok (.lastore, 1) := dk_80 (dk_at dksX8_leads_1 3 rfl rfl)
theorem dX8_leads_28 : decode cX8_leads 28 = .ok (.aload_n 0, 1) := dk_42 (dk_at dksX8_leads_1 4 rfl rfl)
theorem dX8_leads_29 : decode cX8_leads 29 = .ok (.getfield 70, 3) := dk_180 0 70 (dk_at dksX8_leads_1 5 rfl rfl)
theorem dX8_leads_32 : decode cX8_leads 32 = .ok (.iload_n 1, 1) := dk_27 (dk_at dksX8_leads_1 8 rfl rfl)
theorem dX8_leads_33 : decode cX8_leads 33 = .ok (.lconst 0, 1) := dk_9 (dk_at dksX8_leads_1 9 rfl rfl)
theorem dX8_leads_34 : decode cX8_leads 34 = .ok (.lastore, 1) := dk_80 (dk_at dksX8_leads_1 10 rfl rfl)
theorem dX8_leads_35 : decode cX8_leads 35 = .ok (.iinc 1 1, 3) := dk_132 1 1 (dk_at dksX8_leads_1 11 rfl rfl)
theorem dX8_leads_38 : decode cX8_leads 38 = .ok (.goto (-36), 3) := dk_167 255 220 (dk_at dksX8_leads_1 14 rfl rfl)
theorem dX8_leads_41 : decode cX8_leads 41 = .ok (.aload_n 0, 1) := dk_42 (dk_at dksX8_leads_1 17 rfl rfl)
theorem dX8_leads_42 : decode cX8_leads 42 = .ok (.getfield 21, 3) := dk_180 0 21 (dk_at dksX8_leads_1 18 rfl rfl)
theorem dX8_leads_45 : decode cX8_leads 45 = .ok (.bipush 26, 2) := dk_16 26 (dk_at dksX8_leads_1 21 rfl rfl)
theorem dX8_leads_47 : decode cX8_leads 47 = .ok (.iaload, 1) := dk_46 (dk_at dksX8_leads_1 23 rfl rfl)
theorem dX8_leads_48 : decode cX8_leads 48 = .ok (.iconst 1, 1) := dk_4 (dk_at dksX8_leads_2 0 rfl rfl)
theorem dX8_leads_49 : decode cX8_leads 49 = .ok (.if_icmp .ne 5, 3) := dk_160 0 5 (dk_at dksX8_leads_2 1 rfl rfl)
theorem dX8_leads_52 : decode cX8_leads 52 = .ok (.lconst 0, 1) := dk_9 (dk_at dksX8_leads_2 4 rfl rfl)
theorem dX8_leads_53 : decode cX8_leads 53 = .ok (.lreturn, 1) := dk_173 (dk_at dksX8_leads_2 5 rfl rfl)
theorem dX8_leads_54 : decode cX8_leads 54 = .ok (.aload_n 0, 1) := dk_42 (dk_at dksX8_leads_2 6 rfl rfl)
theorem dX8_leads_55 : decode cX8_leads 55 = .ok (.getfield 290, 3) := dk_180 1 34 (dk_at dksX8_leads_2 7 rfl rfl)
theorem dX8_leads_58 : decode cX8_leads 58 = .ok (.getfield 191, 3) := dk_180 0 191 (dk_at dksX8_leads_2 10 rfl rfl)
theorem dX8_leads_61 : decode cX8_leads 61 = .ok (.iconst 2, 1) := dk_5 (dk_at dksX8_leads_2 13 rfl rfl)
theorem dX8_leads_62 : decode cX8_leads 62 = .ok (.isub, 1) := dk_100 (dk_at dksX8_leads_2 14 rfl rfl)
theorem dX8_leads_63 : decode cX8_leads 63 = .ok (.istore_n 1, 1) := dk_60 (dk_at dksX8_leads_2 15 rfl rfl)
theorem dX8_leads_64 : decode cX8_leads 64 = .ok (.iload_n 1, 1) := dk_27 (dk_at dksX8_leads_2 16 rfl rfl)
theorem dX8_leads_65 : decode cX8_leads 65 = .ok (.ifCond .lt 115, 3) := dk_155 0 115 (dk_at dksX8_leads_2 17 rfl rfl)
theorem dX8_leads_68 : decode cX8_leads 68 = .ok (.aload_n 0, 1) := dk_42 (dk_at dksX8_leads_2 20 rfl rfl)
theorem dX8_leads_69 : decode cX8_leads 69 = .ok (.getfield 66, 3) := dk_180 0 66 (dk_at dksX8_leads_2 21 rfl rfl)
theorem dX8_leads_72 : decode cX8_leads 72 = .ok (.iload_n 1, 1) := dk_27 (dk_at dksX8_leads_3 0 rfl rfl)
theorem dX8_leads_73 : decode cX8_leads 73 = .ok (.laload, 1) := dk_47 (dk_at dksX8_leads_3 1 rfl rfl)
theorem dX8_leads_74 : decode cX8_leads 74 = .ok (.aload_n 0, 1) := dk_42 (dk_at dksX8_leads_3 2 rfl rfl)
theorem dX8_leads_75 : decode cX8_leads 75 = .ok (.getfield 290, 3) := dk_180 1 34 (dk_at dksX8_leads_3 3 rfl rfl)
theorem dX8_leads_78 : decode cX8_leads 78 = .ok (.getfield 267, 3) := dk_180 1 11 (dk_at dksX8_leads_3 6 rfl rfl)
theorem dX8_leads_81 : decode cX8_leads 81 = .ok (.iload_n 1, 1) := dk_27 (dk_at dksX8_leads_3 9 rfl rfl)
theorem dX8_leads_82 : decode cX8_leads 82 = .ok (.iaload, 1) := dk_46 (dk_at dksX8_leads_3 10 rfl rfl)
theorem dX8_leads_83 : decode cX8_leads 83 = .ok (.i2l, 1) := dk_133 (dk_at dksX8_leads_3 11 rfl rfl)
theorem dX8_leads_84 : decode cX8_leads 84 = .ok (.lmul, 1) := dk_105 (dk_at dksX8_leads_3 12 rfl rfl)
theorem dX8_leads_85 : decode cX8_leads 85 = .ok (.aload_n 0, 1) := dk_42 (dk_at dksX8_leads_3 13 rfl rfl)
theorem dX8_leads_86 : decode cX8_leads 86 = .ok (.getfield 21, 3) := dk_180 0 21 (dk_at dksX8_leads_3 14 rfl rfl)
theorem dX8_leads_89 : decode cX8_leads 89 = .ok (.bipush 29, 2) := dk_16 29 (dk_at dksX8_leads_3 17 rfl rfl)
theorem dX8_leads_91 : decode cX8_leads 91 = .ok (.iaload, 1) := dk_46 (dk_at dksX8_leads_3 19 rfl rfl)
theorem dX8_leads_92 : decode cX8_leads 92 = .ok (.i2l, 1) := dk_133 (dk_at dksX8_leads_3 20 rfl rfl)
theorem dX8_leads_93 : decode cX8_leads 93 = .ok (.lmul, 1) := dk_105 (dk_at dksX8_leads_3 21 rfl rfl)
theorem dX8_leads_94 : decode cX8_leads 94 = .ok (.ldc2_w 384, 3) := dk_20 1 128 (dk_at dksX8_leads_4 0 rfl rfl)
theorem dX8_leads_97 : decode cX8_leads 97 = .ok (.ldiv, 1) := dk_109 (dk_at dksX8_leads_4 3 rfl rfl)
theorem dX8_leads_98 : decode cX8_leads 98 = .ok (.lstore_n 2, 1) := dk_65 (dk_at dksX8_leads_4 4 rfl rfl)
theorem dX8_leads_99 : decode cX8_leads 99 = .ok (.lload_n 2, 1) := dk_32 (dk_at dksX8_leads_4 5 rfl rfl)
theorem dX8_leads_100 : decode cX8_leads 100 = .ok (.aload_n 0, 1) := dk_42 (dk_at dksX8_leads_4 6 rfl rfl)
theorem dX8_leads_101 : decode cX8_leads 101 = .ok (.getfield 290, 3) := dk_180 1 34 (dk_at dksX8_leads_4 7 rfl rfl)
theorem dX8_leads_104 : decode cX8_leads 104 = .ok (.getfield 270, 3) := dk_180 1 14 (dk_at dksX8_leads_4 10 rfl rfl)
theorem dX8_leads_107 : decode cX8_leads 107 = .ok (.iload_n 1, 1) := dk_27 (dk_at dksX8_leads_4 13 rfl rfl)
theorem dX8_leads_108 : decode cX8_leads 108 = .ok (.iaload, 1) := dk_46 (dk_at dksX8_leads_4 14 rfl rfl)
theorem dX8_leads_109 : decode cX8_leads 109 = .ok (.i2l, 1) := dk_133 (dk_at dksX8_leads_4 15 rfl rfl)
theorem dX8_leads_110 : decode cX8_leads 110 = .ok (.lmul, 1) := dk_105 (dk_at dksX8_leads_4 16 rfl rfl)
theorem dX8_leads_111 : decode cX8_leads 111 = .ok (.ldc2_w 386, 3) := dk_20 1 130 (dk_at dksX8_leads_4 17 rfl rfl)
theorem dX8_leads_114 : decode cX8_leads 114 = .ok (.ldiv, 1) := dk_109 (dk_at dksX8_leads_4 20 rfl rfl)
theorem dX8_leads_115 : decode cX8_leads 115 = .ok (.lstore 4, 2) := dk_55 4 (dk_at dksX8_leads_4 21 rfl rfl)
theorem dX8_leads_117 : decode cX8_leads 117 = .ok (.aload_n 0, 1) := dk_42 (dk_at dksX8_leads_4 23 rfl rfl)
theorem dX8_leads_118 : decode cX8_leads 118 = .ok (.getfield 66, 3) := dk_180 0 66 (dk_at dksX8_leads_5 0 rfl rfl)
theorem dX8_leads_121 : decode cX8_leads 121 = .ok (.iload_n 1, 1) := dk_27 (dk_at dksX8_leads_5 3 rfl rfl)
theorem dX8_leads_122 : decode cX8_leads 122 = .ok (.dup2, 1) := dk_92 (dk_at dksX8_leads_5 4 rfl rfl)
theorem dX8_leads_123 : decode cX8_leads 123 = .ok (.laload, 1) := dk_47 (dk_at dksX8_leads_5 5 rfl rfl)
theorem dX8_leads_124 : decode cX8_leads 124 = .ok (.lload_n 2, 1) := dk_32 (dk_at dksX8_leads_5 6 rfl rfl)
theorem dX8_leads_125 : decode cX8_leads 125 = .ok (.lsub, 1) := dk_101 (dk_at dksX8_leads_5 7 rfl rfl)
theorem dX8_leads_126 : decode cX8_leads 126 = .ok (.lastore, 1) := dk_80 (dk_at dksX8_leads_5 8 rfl rfl)
theorem dX8_leads_127 : decode cX8_leads 127 = .ok (.aload_n 0, 1) := dk_42 (dk_at dksX8_leads_5 9 rfl rfl)
theorem dX8_leads_128 : decode cX8_leads 128 = .ok (.getfield 66, 3) := dk_180 0 66 (dk_at dksX8_leads_5 10 rfl rfl)
theorem dX8_leads_131 : decode cX8_leads 131 = .ok (.iload_n 1, 1) := dk_27 (dk_at dksX8_leads_5 13 rfl rfl)
theorem dX8_leads_132 : decode cX8_leads 132 = .ok (.iconst 1, 1) := dk_4 (dk_at dksX8_leads_5 14 rfl rfl)
theorem dX8_leads_133 : decode cX8_leads 133 = .ok (.iadd, 1) := dk_96 (dk_at dksX8_leads_5 15 rfl rfl)
theorem dX8_leads_134 : decode cX8_leads 134 = .ok (.dup2, 1) := dk_92 (dk_at dksX8_leads_5 16 rfl rfl)
theorem dX8_leads_135 : decode cX8_leads 135 = .ok (.laload, 1) := dk_47 (dk_at dksX8_leads_5 17 rfl rfl)
theorem dX8_leads_136 : decode cX8_leads 136 = .ok (.lload 4, 2) := dk_22 4 (dk_at dksX8_leads_5 18 rfl rfl)
theorem dX8_leads_138 : decode cX8_leads 138 = .ok (.ladd, 1) := dk_97 (dk_at dksX8_leads_5 20 rfl rfl)
theorem dX8_leads_139 : decode cX8_leads 139 = .ok (.lastore, 1) := dk_80 (dk_at dksX8_leads_5 21 rfl rfl)
theorem dX8_leads_140 : decode cX8_leads 140 = .ok (.aload_n 0, 1) := dk_42 (dk_at dksX8_leads_5 22 rfl rfl)
theorem dX8_leads_141 : decode cX8_leads 141 = .ok (.getfield 66, 3) := dk_180 0 66 (dk_at dksX8_leads_6 0 rfl rfl)
theorem dX8_leads_144 : decode cX8_leads 144 = .ok (.iload_n 1, 1) := dk_27 (dk_at dksX8_leads_6 3 rfl rfl)
theorem dX8_leads_145 : decode cX8_leads 145 = .ok (.iconst 2, 1) := dk_5 (dk_at dksX8_leads_6 4 rfl rfl)
theorem dX8_leads_146 : decode cX8_leads 146 = .ok (.iadd, 1) := dk_96 (dk_at dksX8_leads_6 5 rfl rfl)
theorem dX8_leads_147 : decode cX8_leads 147 = .ok (.aload_n 0, 1) := dk_42 (dk_at dksX8_leads_6 6 rfl rfl)
theorem dX8_leads_148 : decode cX8_leads 148 = .ok (.getfield 290, 3) := dk_180 1 34 (dk_at dksX8_leads_6 7 rfl rfl)
theorem dX8_leads_151 : decode cX8_leads 151 = .ok (.getfield 191, 3) := dk_180 0 191 (dk_at dksX8_leads_6 10 rfl rfl)
theorem dX8_leads_154 : decode cX8_leads 154 = .ok (.if_icmp .ge 9, 3) := dk_162 0 9 (dk_at dksX8_leads_6 13 rfl rfl)
theorem dX8_leads_157 : decode cX8_leads 157 = .ok (.iload_n 1, 1) := dk_27 (dk_at dksX8_leads_6 16 rfl rfl)
theorem dX8_leads_158 : decode cX8_leads 158 = .ok (.iconst 2, 1) := dk_5 (dk_at dksX8_leads_6 17 rfl rfl)
theorem dX8_leads_159 : decode cX8_leads 159 = .ok (.iadd, 1) := dk_96 (dk_at dksX8_leads_6 18 rfl rfl)
theorem dX8_leads_160 : decode cX8_leads 160 = .ok (.goto 6, 3) := dk_167 0 6 (dk_at dksX8_leads_6 19 rfl rfl)
theorem dX8_leads_163 : decode cX8_leads 163 = .ok (.iload_n 1, 1) := dk_27 (dk_at dksX8_leads_6 22 rfl rfl)
theorem dX8_leads_164 : decode cX8_leads 164 = .ok (.iconst 1, 1) := dk_4 (dk_at dksX8_leads_6 23 rfl rfl)
theorem dX8_leads_165 : decode cX8_leads 165 = .ok (.iadd, 1) := dk_96 (dk_at dksX8_leads_7 0 rfl rfl)
theorem dX8_leads_166 : decode cX8_leads 166 = .ok (.dup2, 1) := dk_92 (dk_at dksX8_leads_7 1 rfl rfl)
theorem dX8_leads_167 : decode cX8_leads 167 = .ok (.laload, 1) := dk_47 (dk_at dksX8_leads_7 2 rfl rfl)
theorem dX8_leads_168 : decode cX8_leads 168 = .ok (.lload_n 2, 1) := dk_32 (dk_at dksX8_leads_7 3 rfl rfl)
theorem dX8_leads_169 : decode cX8_leads 169 = .ok (.lload 4, 2) := dk_22 4 (dk_at dksX8_leads_7 4 rfl rfl)
theorem dX8_leads_171 : decode cX8_leads 171 = .ok (.lsub, 1) := dk_101 (dk_at dksX8_leads_7 6 rfl rfl)
theorem dX8_leads_172 : decode cX8_leads 172 = .ok (.ladd, 1) := dk_97 (dk_at dksX8_leads_7 7 rfl rfl)
theorem dX8_leads_173 : decode cX8_leads 173 = .ok (.lastore, 1) := dk_80 (dk_at dksX8_leads_7 8 rfl rfl)
theorem dX8_leads_174 : decode cX8_leads 174 = .ok (.iinc 1 (-1), 3) := dk_132 1 255 (dk_at dksX8_leads_7 9 rfl rfl)
theorem dX8_leads_177 : decode cX8_leads 177 = .ok (.goto (-113), 3) := dk_167 255 143 (dk_at dksX8_leads_7 12 rfl rfl)
theorem dX8_leads_180 : decode cX8_leads 180 = .ok (.lconst 0, 1) := dk_9 (dk_at dksX8_leads_7 15 rfl rfl)
theorem dX8_leads_181 : decode cX8_leads 181 = .ok (.lstore_n 1, 1) := dk_64 (dk_at dksX8_leads_7 16 rfl rfl)
theorem dX8_leads_182 : decode cX8_leads 182 = .ok (.iconst 0, 1) := dk_3 (dk_at dksX8_leads_7 17 rfl rfl)
theorem dX8_leads_183 : decode cX8_leads 183 = .ok (.istore_n 3, 1) := dk_62 (dk_at dksX8_leads_7 18 rfl rfl)
theorem dX8_leads_184 : decode cX8_leads 184 = .ok (.iload_n 3, 1) := dk_29 (dk_at dksX8_leads_7 19 rfl rfl)
theorem dX8_leads_185 : decode cX8_leads 185 = .ok (.aload_n 0, 1) := dk_42 (dk_at dksX8_leads_7 20 rfl rfl)
theorem dX8_leads_186 : decode cX8_leads 186 = .ok (.getfield 290, 3) := dk_180 1 34 (dk_at dksX8_leads_7 21 rfl rfl)
theorem dX8_leads_189 : decode cX8_leads 189 = .ok (.getfield 191, 3) := dk_180 0 191 (dk_at dksX8_leads_8 0 rfl rfl)
theorem dX8_leads_192 : decode cX8_leads 192 = .ok (.if_icmp .ge 85, 3) := dk_162 0 85 (dk_at dksX8_leads_8 3 rfl rfl)
theorem dX8_leads_195 : decode cX8_leads 195 = .ok (.aload_n 0, 1) := dk_42 (dk_at dksX8_leads_8 6 rfl rfl)
theorem dX8_leads_196 : decode cX8_leads 196 = .ok (.getfield 66, 3) := dk_180 0 66 (dk_at dksX8_leads_8 7 rfl rfl)
theorem dX8_leads_199 : decode cX8_leads 199 = .ok (.iload_n 3, 1) := dk_29 (dk_at dksX8_leads_8 10 rfl rfl)
theorem dX8_leads_200 : decode cX8_leads 200 = .ok (.laload, 1) := dk_47 (dk_at dksX8_leads_8 11 rfl rfl)
theorem dX8_leads_201 : decode cX8_leads 201 = .ok (.bipush 20, 2) := dk_16 20 (dk_at dksX8_leads_8 12 rfl rfl)
theorem dX8_leads_203 : decode cX8_leads 203 = .ok (.bipush 10, 2) := dk_16 10 (dk_at dksX8_leads_8 14 rfl rfl)
theorem dX8_leads_205 : decode cX8_leads 205 = .ok (.aload_n 0, 1) := dk_42 (dk_at dksX8_leads_8 16 rfl rfl)
theorem dX8_leads_206 : decode cX8_leads 206 = .ok (.getfield 21, 3) := dk_180 0 21 (dk_at dksX8_leads_8 17 rfl rfl)
theorem dX8_leads_209 : decode cX8_leads 209 = .ok (.bipush 35, 2) := dk_16 35 (dk_at dksX8_leads_8 20 rfl rfl)
theorem dX8_leads_211 : decode cX8_leads 211 = .ok (.iaload, 1) := dk_46 (dk_at dksX8_leads_8 22 rfl rfl)
theorem dX8_leads_212 : decode cX8_leads 212 = .ok (.imul, 1) := dk_104 (dk_at dksX8_leads_8 23 rfl rfl)
theorem dX8_leads_213 : decode cX8_leads 213 = .ok (.iadd, 1) := dk_96 (dk_at dksX8_leads_9 0 rfl rfl)
theorem dX8_leads_214 : decode cX8_leads 214 = .ok (.i2l, 1) := dk_133 (dk_at dksX8_leads_9 1 rfl rfl)
theorem dX8_leads_215 : decode cX8_leads 215 = .ok (.lmul, 1) := dk_105 (dk_at dksX8_leads_9 2 rfl rfl)
theorem dX8_leads_216 : decode cX8_leads 216 = .ok (.ldc2_w 386, 3) := dk_20 1 130 (dk_at dksX8_leads_9 3 rfl rfl)
theorem dX8_leads_219 : decode cX8_leads 219 = .ok (.ldiv, 1) := dk_109 (dk_at dksX8_leads_9 6 rfl rfl)
theorem dX8_leads_220 : decode cX8_leads 220 = .ok (.lstore 4, 2) := dk_55 4 (dk_at dksX8_leads_9 7 rfl rfl)
theorem dX8_leads_222 : decode cX8_leads 222 = .ok (.lload 4, 2) := dk_22 4 (dk_at dksX8_leads_9 9 rfl rfl)
theorem dX8_leads_224 : decode cX8_leads 224 = .ok (.aload_n 0, 1) := dk_42 (dk_at dksX8_leads_9 11 rfl rfl)
theorem dX8_leads_225 : decode cX8_leads 225 = .ok (.iload_n 3, 1) := dk_29 (dk_at dksX8_leads_9 12 rfl rfl)
theorem dX8_leads_226 : decode cX8_leads 226 = .ok (.aload_n 0, 1) := dk_42 (dk_at dksX8_leads_9 13 rfl rfl)
theorem dX8_leads_227 : decode cX8_leads 227 = .ok (.getfield 21, 3) := dk_180 0 21 (dk_at dksX8_leads_9 14 rfl rfl)
theorem dX8_leads_230 : decode cX8_leads 230 = .ok (.bipush 25, 2) := dk_16 25 (dk_at dksX8_leads_9 17 rfl rfl)
theorem dX8_leads_232 : decode cX8_leads 232 = .ok (.iaload, 1) := dk_46 (dk_at dksX8_leads_9 19 rfl rfl)
theorem dX8_leads_233 : decode cX8_leads 233 = .ok (.invokevirtual 320, 3) := dk_182 1 64 (dk_at dksX8_leads_9 20 rfl rfl)
theorem dX8_leads_236 : decode cX8_leads 236 = .ok (.i2l, 1) := dk_133 (dk_at dksX8_leads_9 23 rfl rfl)
theorem dX8_leads_237 : decode cX8_leads 237 = .ok (.lmul, 1) := dk_105 (dk_at dksX8_leads_10 0 rfl rfl)
theorem dX8_leads_238 : decode cX8_leads 238 = .ok (.ldc2_w 386, 3) := dk_20 1 130 (dk_at dksX8_leads_10 1 rfl rfl)
theorem dX8_leads_241 : decode cX8_leads 241 = .ok (.ldiv, 1) := dk_109 (dk_at dksX8_leads_10 4 rfl rfl)
theorem dX8_leads_242 : decode cX8_leads 242 = .ok (.lstore 6, 2) := dk_55 6 (dk_at dksX8_leads_10 5 rfl rfl)
theorem dX8_leads_244 : decode cX8_leads 244 = .ok (.aload_n 0, 1) := dk_42 (dk_at dksX8_leads_10 7 rfl rfl)
theorem dX8_leads_245 : decode cX8_leads 245 = .ok (.getfield 66, 3) := dk_180 0 66 (dk_at dksX8_leads_10 8 rfl rfl)
theorem dX8_leads_248 : decode cX8_leads 248 = .ok (.iload_n 3, 1) := dk_29 (dk_at dksX8_leads_10 11 rfl rfl)
theorem dX8_leads_249 : decode cX8_leads 249 = .ok (.dup2, 1) := dk_92 (dk_at dksX8_leads_10 12 rfl rfl)
theorem dX8_leads_250 : decode cX8_leads 250 = .ok (.laload, 1) := dk_47 (dk_at dksX8_leads_10 13 rfl rfl)
theorem dX8_leads_251 : decode cX8_leads 251 = .ok (.lload 4, 2) := dk_22 4 (dk_at dksX8_leads_10 14 rfl rfl)
theorem dX8_leads_253 : decode cX8_leads 253 = .ok (.lsub, 1) := dk_101 (dk_at dksX8_leads_10 16 rfl rfl)
theorem dX8_leads_254 : decode cX8_leads 254 = .ok (.lastore, 1) := dk_80 (dk_at dksX8_leads_10 17 rfl rfl)
theorem dX8_leads_255 : decode cX8_leads 255 = .ok (.aload_n 0, 1) := dk_42 (dk_at dksX8_leads_10 18 rfl rfl)
theorem dX8_leads_256 : decode cX8_leads 256 = .ok (.getfield 70, 3) := dk_180 0 70 (dk_at dksX8_leads_10 19 rfl rfl)
theorem dX8_leads_259 : decode cX8_leads 259 = .ok (.iload_n 3, 1) := dk_29 (dk_at dksX8_leads_10 22 rfl rfl)
theorem dX8_leads_260 : decode cX8_leads 260 = .ok (.lload 4, 2) := dk_22 4 (dk_at dksX8_leads_11 0 rfl rfl)
theorem dX8_leads_262 : decode cX8_leads 262 = .ok (.lload 6, 2) := dk_22 6 (dk_at dksX8_leads_11 2 rfl rfl)
theorem dX8_leads_264 : decode cX8_leads 264 = .ok (.lsub, 1) := dk_101 (dk_at dksX8_leads_11 4 rfl rfl)
theorem dX8_leads_265 : decode cX8_leads 265 = .ok (.lastore, 1) := dk_80 (dk_at dksX8_leads_11 5 rfl rfl)
theorem dX8_leads_266 : decode cX8_leads 266 = .ok (.lload_n 1, 1) := dk_31 (dk_at dksX8_leads_11 6 rfl rfl)
theorem dX8_leads_267 : decode cX8_leads 267 = .ok (.lload 6, 2) := dk_22 6 (dk_at dksX8_leads_11 7 rfl rfl)
theorem dX8_leads_269 : decode cX8_leads 269 = .ok (.ladd, 1) := dk_97 (dk_at dksX8_leads_11 9 rfl rfl)
theorem dX8_leads_270 : decode cX8_leads 270 = .ok (.lstore_n 1, 1) := dk_64 (dk_at dksX8_leads_11 10 rfl rfl)
theorem dX8_leads_271 : decode cX8_leads 271 = .ok (.iinc 3 1, 3) := dk_132 3 1 (dk_at dksX8_leads_11 11 rfl rfl)
theorem dX8_leads_274 : decode cX8_leads 274 = .ok (.goto (-90), 3) := dk_167 255 166 (dk_at dksX8_leads_11 14 rfl rfl)
theorem dX8_leads_277 : decode cX8_leads 277 = .ok (.lload_n 1, 1) := dk_31 (dk_at dksX8_leads_11 17 rfl rfl)
theorem dX8_leads_278 : decode cX8_leads 278 = .ok (.lreturn, 1) := dk_173 (dk_at dksX8_leads_11 18 rfl rfl)
abbrev cX8_led : ByteArray := prog_14_method_80_code
def yX8_led : MethodName := ⟨RX8, "led", "(I)I"⟩
def dkwX8_led_1 : List UInt8 := [180, 0, 73, 158, 0, 7, 3, 167, 0, 9, 42, 180, 0, 24, 27, 46, 172]
abbrev dktX8_led_1 : List UInt8 := dkwX8_led_1 ++ []
def dkwX8_led_0 : List UInt8 := [42, 27, 155, 0, 11, 27, 42, 180, 1, 43, 161, 0, 7, 4, 167, 0, 4, 3, 181, 0, 73, 42]
abbrev dktX8_led_0 : List UInt8 := dkwX8_led_0 ++ dktX8_led_1
theorem dksX8_led_0 : cX8_led.data.toList.drop 0 = dktX8_led_0 := by decide +kernel
theorem dksX8_led_1 : cX8_led.data.toList.drop 22 = dktX8_led_1 := dk_seg dksX8_led_0 22 rfl rfl
theorem dX8_led_0 : decode cX8_led 0 = .ok (.aload_n 0, 1) := dk_42 (dk_at dksX8_led_0 0 rfl rfl)
theorem dX8_led_1 : decode cX8_led 1 = .ok (.iload_n 1, 1) := dk_27 (dk_at dksX8_led_0 1 rfl rfl)
theorem dX8_led_2 : decode cX8_led 2 = .ok (.ifCond .lt 11, 3) := dk_155 0 11 (dk_at dksX8_led_0 2 rfl rfl)
theorem dX8_led_5 : decode cX8_led 5 = .ok (.iload_n 1, 1) := dk_27 (dk_at dksX8_led_0 5 rfl rfl)
theorem dX8_led_6 : decode cX8_led 6 = .ok (.aload_n 0, 1) := dk_42 (dk_at dksX8_led_0 6 rfl rfl)
theorem dX8_led_7 : decode cX8_led 7 = .ok (.getfield 299, 3) := dk_180 1 43 (dk_at dksX8_led_0 7 rfl rfl)
theorem dX8_led_10 : decode cX8_led 10 = .ok (.if_icmp .lt 7, 3) := dk_161 0 7 (dk_at dksX8_led_0 10 rfl rfl)
theorem dX8_led_13 : decode cX8_led 13 = .ok (.iconst 1, 1) := dk_4 (dk_at dksX8_led_0 13 rfl rfl)
theorem dX8_led_14 : decode cX8_led 14 = .ok (.goto 4, 3) := dk_167 0 4 (dk_at dksX8_led_0 14 rfl rfl)
theorem dX8_led_17 : decode cX8_led 17 = .ok (.iconst 0, 1) := dk_3 (dk_at dksX8_led_0 17 rfl rfl)
theorem dX8_led_18 : decode cX8_led 18 = .ok (.putfield 73, 3) := dk_181 0 73 (dk_at dksX8_led_0 18 rfl rfl)
theorem dX8_led_21 : decode cX8_led 21 = .ok (.aload_n 0, 1) := dk_42 (dk_at dksX8_led_0 21 rfl rfl)
theorem dX8_led_22 : decode cX8_led 22 = .ok (.getfield 73, 3) := dk_180 0 73 (dk_at dksX8_led_1 0 rfl rfl)
theorem dX8_led_25 : decode cX8_led 25 = .ok (.ifCond .le 7, 3) := dk_158 0 7 (dk_at dksX8_led_1 3 rfl rfl)
theorem dX8_led_28 : decode cX8_led 28 = .ok (.iconst 0, 1) := dk_3 (dk_at dksX8_led_1 6 rfl rfl)
theorem dX8_led_29 : decode cX8_led 29 = .ok (.goto 9, 3) := dk_167 0 9 (dk_at dksX8_led_1 7 rfl rfl)
theorem dX8_led_32 : decode cX8_led 32 = .ok (.aload_n 0, 1) := dk_42 (dk_at dksX8_led_1 10 rfl rfl)
theorem dX8_led_33 : decode cX8_led 33 = .ok (.getfield 24, 3) := dk_180 0 24 (dk_at dksX8_led_1 11 rfl rfl)
theorem dX8_led_36 : decode cX8_led 36 = .ok (.iload_n 1, 1) := dk_27 (dk_at dksX8_led_1 14 rfl rfl)
theorem dX8_led_37 : decode cX8_led 37 = .ok (.iaload, 1) := dk_46 (dk_at dksX8_led_1 15 rfl rfl)
theorem dX8_led_38 : decode cX8_led 38 = .ok (.ireturn, 1) := dk_172 (dk_at dksX8_led_1 16 rfl rfl)
abbrev cX8_size : ByteArray := prog_14_method_81_code
def yX8_size : MethodName := ⟨RX8, "size", "(I)I"⟩
def dkwX8_size_6 : List UInt8 := [42, 180, 1, 34, 180, 0, 188, 172, 42, 180, 1, 37, 172]
abbrev dktX8_size_6 : List UInt8 := dkwX8_size_6 ++ []
def dkwX8_size_5 : List UInt8 := [42, 180, 1, 34, 180, 0, 183, 172, 42, 180, 1, 34, 180, 0, 186, 172, 42, 180, 1, 34, 180, 0, 252, 172]
abbrev dktX8_size_5 : List UInt8 := dkwX8_size_5 ++ dktX8_size_6
def dkwX8_size_4 : List UInt8 := [42, 180, 1, 34, 180, 0, 233, 172, 42, 180, 1, 34, 180, 0, 181, 172, 42, 180, 1, 34, 180, 0, 248, 172]
abbrev dktX8_size_4 : List UInt8 := dkwX8_size_4 ++ dktX8_size_5
def dkwX8_size_3 : List UInt8 := [42, 180, 1, 34, 180, 0, 191, 172, 42, 180, 1, 34, 180, 0, 194, 172, 42, 180, 1, 34, 180, 0, 176, 172]
abbrev dktX8_size_3 : List UInt8 := dkwX8_size_3 ++ dktX8_size_4
def dkwX8_size_2 : List UInt8 := [170, 0, 0, 0, 0, 134, 0, 0, 0, 0, 0, 0, 0, 9, 0, 0, 0, 54, 0, 0, 0, 62, 0, 0, 0, 70, 0, 0, 0, 78, 0, 0, 0, 86, 0, 0, 0, 94, 0, 0, 0, 102, 0, 0, 0, 110, 0, 0, 0, 118, 0, 0, 0, 126]
abbrev dktX8_size_2 : List UInt8 := dkwX8_size_2 ++ dktX8_size_3
def dkwX8_size_1 : List UInt8 := [154, 0, 5, 2, 172, 42, 180, 1, 34, 199, 0, 5, 3, 172, 27]
abbrev dktX8_size_1 : List UInt8 := dkwX8_size_1 ++ dktX8_size_2
def dkwX8_size_0 : List UInt8 := [42, 3, 181, 0, 73, 27, 16, 11, 160, 0, 8, 42, 180, 1, 24, 172, 27, 3, 16, 10, 184, 0, 149]
abbrev dktX8_size_0 : List UInt8 := dkwX8_size_0 ++ dktX8_size_1
theorem dksX8_size_0 : cX8_size.data.toList.drop 0 = dktX8_size_0 := by decide +kernel
theorem dksX8_size_1 : cX8_size.data.toList.drop 23 = dktX8_size_1 := dk_seg dksX8_size_0 23 rfl rfl
theorem dksX8_size_2 : cX8_size.data.toList.drop 38 = dktX8_size_2 := dk_seg dksX8_size_1 15 rfl rfl
theorem dksX8_size_3 : cX8_size.data.toList.drop 92 = dktX8_size_3 := dk_seg dksX8_size_2 54 rfl rfl
theorem dksX8_size_4 : cX8_size.data.toList.drop 116 = dktX8_size_4 := dk_seg dksX8_size_3 24 rfl rfl
theorem dksX8_size_5 : cX8_size.data.toList.drop 140 = dktX8_size_5 := dk_seg dksX8_size_4 24 rfl rfl
theorem dksX8_size_6 : cX8_size.data.toList.drop 164 = dktX8_size_6 := dk_seg dksX8_size_5 24 rfl rfl
theorem dX8_size_0 : decode cX8_size 0 = .ok (.aload_n 0, 1) := dk_42 (dk_at dksX8_size_0 0 rfl rfl)
theorem dX8_size_1 : decode cX8_size 1 = .ok (.iconst 0, 1) := dk_3 (dk_at dksX8_size_0 1 rfl rfl)
theorem dX8_size_2 : decode cX8_size 2 = .ok (.putfield 73, 3) := dk_181 0 73 (dk_at dksX8_size_0 2 rfl rfl)
theorem dX8_size_5 : decode cX8_size 5 = .ok (.iload_n 1, 1) := dk_27 (dk_at dksX8_size_0 5 rfl rfl)
theorem dX8_size_6 : decode cX8_size 6 = .ok (.bipush 11, 2) := dk_16 11 (dk_at dksX8_size_0 6 rfl rfl)
theorem dX8_size_8 : decode cX8_size 8 = .ok (.if_icmp .ne 8, 3) := dk_160 0 8 (dk_at dksX8_size_0 8 rfl rfl)
theorem dX8_size_11 : decode cX8_size 11 = .ok (.aload_n 0, 1) := dk_42 (dk_at dksX8_size_0 11 rfl rfl)
theorem dX8_size_12 : decode cX8_size 12 = .ok (.getfield 280, 3) := dk_180 1 24 (dk_at dksX8_size_0 12 rfl rfl)
theorem dX8_size_15 : decode cX8_size 15 = .ok (.ireturn, 1) := dk_172 (dk_at dksX8_size_0 15 rfl rfl)
theorem dX8_size_16 : decode cX8_size 16 = .ok (.iload_n 1, 1) := dk_27 (dk_at dksX8_size_0 16 rfl rfl)
theorem dX8_size_17 : decode cX8_size 17 = .ok (.iconst 0, 1) := dk_3 (dk_at dksX8_size_0 17 rfl rfl)
theorem dX8_size_18 : decode cX8_size 18 = .ok (.bipush 10, 2) := dk_16 10 (dk_at dksX8_size_0 18 rfl rfl)
theorem dX8_size_20 : decode cX8_size 20 = .ok (.invokestatic 149, 3) := dk_184 0 149 (dk_at dksX8_size_0 20 rfl rfl)
theorem dX8_size_23 : decode cX8_size 23 = .ok (.ifCond .ne 5, 3) := dk_154 0 5 (dk_at dksX8_size_1 0 rfl rfl)
theorem dX8_size_26 : decode cX8_size 26 = .ok (.iconst (-1), 1) := dk_2 (dk_at dksX8_size_1 3 rfl rfl)
theorem dX8_size_27 : decode cX8_size 27 = .ok (.ireturn, 1) := dk_172 (dk_at dksX8_size_1 4 rfl rfl)
theorem dX8_size_28 : decode cX8_size 28 = .ok (.aload_n 0, 1) := dk_42 (dk_at dksX8_size_1 5 rfl rfl)
theorem dX8_size_29 : decode cX8_size 29 = .ok (.getfield 290, 3) := dk_180 1 34 (dk_at dksX8_size_1 6 rfl rfl)
theorem dX8_size_32 : decode cX8_size 32 = .ok (.ifnonnull 5, 3) := dk_199 0 5 (dk_at dksX8_size_1 9 rfl rfl)
theorem dX8_size_35 : decode cX8_size 35 = .ok (.iconst 0, 1) := dk_3 (dk_at dksX8_size_1 12 rfl rfl)
theorem dX8_size_36 : decode cX8_size 36 = .ok (.ireturn, 1) := dk_172 (dk_at dksX8_size_1 13 rfl rfl)
theorem dX8_size_37 : decode cX8_size 37 = .ok (.iload_n 1, 1) := dk_27 (dk_at dksX8_size_1 14 rfl rfl)
theorem dX8_size_38 : decode cX8_size 38 = .ok (.tableswitch 134 0 9 #[54, 62, 70, 78, 86, 94, 102, 110, 118, 126], 54) := by decide +kernel
theorem dX8_size_92 : decode cX8_size 92 = .ok (.aload_n 0, 1) := dk_42 (dk_at dksX8_size_3 0 rfl rfl)
theorem dX8_size_93 : decode cX8_size 93 = .ok (.getfield 290, 3) := dk_180 1 34 (dk_at dksX8_size_3 1 rfl rfl)
theorem dX8_size_96 : decode cX8_size 96 = .ok (.getfield 191, 3) := dk_180 0 191 (dk_at dksX8_size_3 4 rfl rfl)
theorem dX8_size_99 : decode cX8_size 99 = .ok (.ireturn, 1) := dk_172 (dk_at dksX8_size_3 7 rfl rfl)
theorem dX8_size_100 : decode cX8_size 100 = .ok (.aload_n 0, 1) := dk_42 (dk_at dksX8_size_3 8 rfl rfl)
theorem dX8_size_101 : decode cX8_size 101 = .ok (.getfield 290, 3) := dk_180 1 34 (dk_at dksX8_size_3 9 rfl rfl)
theorem dX8_size_104 : decode cX8_size 104 = .ok (.getfield 194, 3) := dk_180 0 194 (dk_at dksX8_size_3 12 rfl rfl)
theorem dX8_size_107 : decode cX8_size 107 = .ok (.ireturn, 1) := dk_172 (dk_at dksX8_size_3 15 rfl rfl)
theorem dX8_size_108 : decode cX8_size 108 = .ok (.aload_n 0, 1) := dk_42 (dk_at dksX8_size_3 16 rfl rfl)
theorem dX8_size_109 : decode cX8_size 109 = .ok (.getfield 290, 3) := dk_180 1 34 (dk_at dksX8_size_3 17 rfl rfl)
theorem dX8_size_112 : decode cX8_size 112 = .ok (.getfield 176, 3) := dk_180 0 176 (dk_at dksX8_size_3 20 rfl rfl)
theorem dX8_size_115 : decode cX8_size 115 = .ok (.ireturn, 1) := dk_172 (dk_at dksX8_size_3 23 rfl rfl)
theorem dX8_size_116 : decode cX8_size 116 = .ok (.aload_n 0, 1) := dk_42 (dk_at dksX8_size_4 0 rfl rfl)
theorem dX8_size_117 : decode cX8_size 117 = .ok (.getfield 290, 3) := dk_180 1 34 (dk_at dksX8_size_4 1 rfl rfl)
theorem dX8_size_120 : decode cX8_size 120 = .ok (.getfield 233, 3) := dk_180 0 233 (dk_at dksX8_size_4 4 rfl rfl)
theorem dX8_size_123 : decode cX8_size 123 = .ok (.ireturn, 1) := dk_172 (dk_at dksX8_size_4 7 rfl rfl)
theorem dX8_size_124 : decode cX8_size 124 = .ok (.aload_n 0, 1) := dk_42 (dk_at dksX8_size_4 8 rfl rfl)
theorem dX8_size_125 : decode cX8_size 125 = .ok (.getfield 290, 3) := dk_180 1 34 (dk_at dksX8_size_4 9 rfl rfl)
theorem dX8_size_128 : decode cX8_size 128 = .ok (.getfield 181, 3) := dk_180 0 181 (dk_at dksX8_size_4 12 rfl rfl)
theorem dX8_size_131 : decode cX8_size 131 = .ok (.ireturn, 1) := dk_172 (dk_at dksX8_size_4 15 rfl rfl)
theorem dX8_size_132 : decode cX8_size 132 = .ok (.aload_n 0, 1) := dk_42 (dk_at dksX8_size_4 16 rfl rfl)
theorem dX8_size_133 : decode cX8_size 133 = .ok (.getfield 290, 3) := dk_180 1 34 (dk_at dksX8_size_4 17 rfl rfl)
theorem dX8_size_136 : decode cX8_size 136 = .ok (.getfield 248, 3) := dk_180 0 248 (dk_at dksX8_size_4 20 rfl rfl)
theorem dX8_size_139 : decode cX8_size 139 = .ok (.ireturn, 1) := dk_172 (dk_at dksX8_size_4 23 rfl rfl)
theorem dX8_size_140 : decode cX8_size 140 = .ok (.aload_n 0, 1) := dk_42 (dk_at dksX8_size_5 0 rfl rfl)
theorem dX8_size_141 : decode cX8_size 141 = .ok (.getfield 290, 3) := dk_180 1 34 (dk_at dksX8_size_5 1 rfl rfl)
theorem dX8_size_144 : decode cX8_size 144 = .ok (.getfield 183, 3) := dk_180 0 183 (dk_at dksX8_size_5 4 rfl rfl)
theorem dX8_size_147 : decode cX8_size 147 = .ok (.ireturn, 1) := dk_172 (dk_at dksX8_size_5 7 rfl rfl)
theorem dX8_size_148 : decode cX8_size 148 = .ok (.aload_n 0, 1) := dk_42 (dk_at dksX8_size_5 8 rfl rfl)
theorem dX8_size_149 : decode cX8_size 149 = .ok (.getfield 290, 3) := dk_180 1 34 (dk_at dksX8_size_5 9 rfl rfl)
theorem dX8_size_152 : decode cX8_size 152 = .ok (.getfield 186, 3) := dk_180 0 186 (dk_at dksX8_size_5 12 rfl rfl)
theorem dX8_size_155 : decode cX8_size 155 = .ok (.ireturn, 1) := dk_172 (dk_at dksX8_size_5 15 rfl rfl)
theorem dX8_size_156 : decode cX8_size 156 = .ok (.aload_n 0, 1) := dk_42 (dk_at dksX8_size_5 16 rfl rfl)
theorem dX8_size_157 : decode cX8_size 157 = .ok (.getfield 290, 3) := dk_180 1 34 (dk_at dksX8_size_5 17 rfl rfl)
theorem dX8_size_160 : decode cX8_size 160 = .ok (.getfield 252, 3) := dk_180 0 252 (dk_at dksX8_size_5 20 rfl rfl)
theorem dX8_size_163 : decode cX8_size 163 = .ok (.ireturn, 1) := dk_172 (dk_at dksX8_size_5 23 rfl rfl)
theorem dX8_size_164 : decode cX8_size 164 = .ok (.aload_n 0, 1) := dk_42 (dk_at dksX8_size_6 0 rfl rfl)
theorem dX8_size_165 : decode cX8_size 165 = .ok (.getfield 290, 3) := dk_180 1 34 (dk_at dksX8_size_6 1 rfl rfl)
theorem dX8_size_168 : decode cX8_size 168 = .ok (.getfield 188, 3) := dk_180 0 188 (dk_at dksX8_size_6 4 rfl rfl)
theorem dX8_size_171 : decode cX8_size 171 = .ok (.ireturn, 1) := dk_172 (dk_at dksX8_size_6 7 rfl rfl)
theorem dX8_size_172 : decode cX8_size 172 = .ok (.aload_n 0, 1) := dk_42 (dk_at dksX8_size_6 8 rfl rfl)
theorem dX8_size_173 : decode cX8_size 173 = .ok (.getfield 293, 3) := dk_180 1 37 (dk_at dksX8_size_6 9 rfl rfl)
theorem dX8_size_176 : decode cX8_size 176 = .ok (.ireturn, 1) := dk_172 (dk_at dksX8_size_6 12 rfl rfl)
abbrev cX8_trouble : ByteArray := prog_14_method_82_code
def yX8_trouble : MethodName := ⟨RX8, "trouble", "()I"⟩
def dkwX8_trouble_0 : List UInt8 := [42, 3, 181, 0, 73, 42, 180, 0, 76, 172]
abbrev dktX8_trouble_0 : List UInt8 := dkwX8_trouble_0 ++ []
theorem dksX8_trouble_0 : cX8_trouble.data.toList.drop 0 = dktX8_trouble_0 := by decide +kernel
theorem dX8_trouble_0 : decode cX8_trouble 0 = .ok (.aload_n 0, 1) := dk_42 (dk_at dksX8_trouble_0 0 rfl rfl)
theorem dX8_trouble_1 : decode cX8_trouble 1 = .ok (.iconst 0, 1) := dk_3 (dk_at dksX8_trouble_0 1 rfl rfl)
theorem dX8_trouble_2 : decode cX8_trouble 2 = .ok (.putfield 73, 3) := dk_181 0 73 (dk_at dksX8_trouble_0 2 rfl rfl)
theorem dX8_trouble_5 : decode cX8_trouble 5 = .ok (.aload_n 0, 1) := dk_42 (dk_at dksX8_trouble_0 5 rfl rfl)
theorem dX8_trouble_6 : decode cX8_trouble 6 = .ok (.getfield 76, 3) := dk_180 0 76 (dk_at dksX8_trouble_0 6 rfl rfl)
theorem dX8_trouble_9 : decode cX8_trouble 9 = .ok (.ireturn, 1) := dk_172 (dk_at dksX8_trouble_0 9 rfl rfl)
theorem q93 : (Jvm.Cond.initialized "RoarMillModel") ∈ lw_all := lw_g (lw_at lw_m1 11 rfl) rfl
theorem q1136 : (Jvm.Cond.instantiable "RoarMillModel" (37 : Nat)) ∈ lw_all := lw_g (lw_at lw_m5 94 rfl) rfl
theorem q1138 : (Jvm.Cond.instanceMethod ({ cls := "RoarMillModel", name := "<init>", desc := "()V" } : Jvm.MethodName)) ∈ lw_all := lw_g (lw_at lw_m5 96 rfl) rfl
theorem q1139 : (Jvm.Cond.code ({ cls := "RoarMillModel", name := "<init>", desc := "()V" } : Jvm.MethodName) prog_14_method_1_code (1 : Nat) (Option.none : Option Jvm.ClassFile.FieldType)) ∈ lw_all := lw_g (lw_at lw_m5 97 rfl) rfl
theorem q1140 : (Jvm.Cond.methodLink "RoarMillModel" (1 : Nat) ({ cls := "java/lang/Object", name := "<init>", desc := "()V" } : Jvm.MethodName)) ∈ lw_all := lw_g (lw_at lw_m5 98 rfl) rfl
theorem q1141 : (Jvm.Cond.fieldLink "RoarMillModel" (73 : Nat) "RoarMillModel" "thrown" "I") ∈ lw_all := lw_g (lw_at lw_m5 99 rfl) rfl
theorem q1142 : (Jvm.Cond.fieldLink "RoarMillModel" (76 : Nat) "RoarMillModel" "trouble" "I") ∈ lw_all := lw_g (lw_at lw_m5 100 rfl) rfl
theorem q1143 : (Jvm.Cond.fieldLink "RoarMillModel" (9 : Nat) "RoarMillModel" "where" "I") ∈ lw_all := lw_g (lw_at lw_m5 101 rfl) rfl
theorem q1144 : (Jvm.Cond.fieldLink "RoarMillModel" (290 : Nat) "RoarMillModel" "mill" "LRoarMillModel$Mill;") ∈ lw_all := lw_g (lw_at lw_m5 102 rfl) rfl
theorem q1145 : (Jvm.Cond.fieldLink "RoarMillModel" (172 : Nat) "RoarMillModel" "fresh" "LRoarMillModel$Mill;") ∈ lw_all := lw_g (lw_at lw_m5 103 rfl) rfl
theorem q1146 : (Jvm.Cond.fieldLink "RoarMillModel" (13 : Nat) "RoarMillModel" "tape" "[B") ∈ lw_all := lw_g (lw_at lw_m5 104 rfl) rfl
theorem q1147 : (Jvm.Cond.fieldLink "RoarMillModel" (280 : Nat) "RoarMillModel" "taped" "I") ∈ lw_all := lw_g (lw_at lw_m5 105 rfl) rfl
theorem q1148 : (Jvm.Cond.fieldLink "RoarMillModel" (79 : Nat) "RoarMillModel" "size" "I") ∈ lw_all := lw_g (lw_at lw_m5 106 rfl) rfl
theorem q1149 : (Jvm.Cond.fieldLink "RoarMillModel" (97 : Nat) "RoarMillModel" "at" "I") ∈ lw_all := lw_g (lw_at lw_m5 107 rfl) rfl
theorem q1150 : (Jvm.Cond.fieldLink "RoarMillModel" (94 : Nat) "RoarMillModel" "sort" "I") ∈ lw_all := lw_g (lw_at lw_m5 108 rfl) rfl
theorem q1151 : (Jvm.Cond.fieldLink "RoarMillModel" (104 : Nat) "RoarMillModel" "place" "I") ∈ lw_all := lw_g (lw_at lw_m5 109 rfl) rfl
theorem q1152 : (Jvm.Cond.fieldLink "RoarMillModel" (107 : Nat) "RoarMillModel" "mark" "I") ∈ lw_all := lw_g (lw_at lw_m5 110 rfl) rfl
theorem q1153 : (Jvm.Cond.fieldLink "RoarMillModel" (121 : Nat) "RoarMillModel" "number" "I") ∈ lw_all := lw_g (lw_at lw_m5 111 rfl) rfl
theorem q1154 : (Jvm.Cond.fieldLink "RoarMillModel" (128 : Nat) "RoarMillModel" "fault" "I") ∈ lw_all := lw_g (lw_at lw_m5 112 rfl) rfl
theorem q1155 : (Jvm.Cond.fieldLink "RoarMillModel" (131 : Nat) "RoarMillModel" "wrongAt" "I") ∈ lw_all := lw_g (lw_at lw_m5 113 rfl) rfl
theorem q1156 : (Jvm.Cond.fieldLink "RoarMillModel" (114 : Nat) "RoarMillModel" "word" "J") ∈ lw_all := lw_g (lw_at lw_m5 114 rfl) rfl
theorem q1157 : (Jvm.Cond.fieldLink "RoarMillModel" (17 : Nat) "RoarMillModel" "state" "[I") ∈ lw_all := lw_g (lw_at lw_m5 115 rfl) rfl
theorem q1158 : (Jvm.Cond.fieldLink "RoarMillModel" (21 : Nat) "RoarMillModel" "twin" "[I") ∈ lw_all := lw_g (lw_at lw_m5 116 rfl) rfl
theorem q1159 : (Jvm.Cond.fieldLink "RoarMillModel" (299 : Nat) "RoarMillModel" "stood" "I") ∈ lw_all := lw_g (lw_at lw_m5 117 rfl) rfl
theorem q1160 : (Jvm.Cond.fieldLink "RoarMillModel" (24 : Nat) "RoarMillModel" "stands" "[I") ∈ lw_all := lw_g (lw_at lw_m5 118 rfl) rfl
theorem q1161 : (Jvm.Cond.fieldLink "RoarMillModel" (27 : Nat) "RoarMillModel" "programRate" "[I") ∈ lw_all := lw_g (lw_at lw_m5 119 rfl) rfl
theorem q1162 : (Jvm.Cond.fieldLink "RoarMillModel" (30 : Nat) "RoarMillModel" "programWater" "[I") ∈ lw_all := lw_g (lw_at lw_m5 120 rfl) rfl
theorem q1163 : (Jvm.Cond.fieldLink "RoarMillModel" (33 : Nat) "RoarMillModel" "programOre" "[I") ∈ lw_all := lw_g (lw_at lw_m5 121 rfl) rfl
theorem q1164 : (Jvm.Cond.fieldLink "RoarMillModel" (293 : Nat) "RoarMillModel" "seen" "I") ∈ lw_all := lw_g (lw_at lw_m5 122 rfl) rfl
theorem q1165 : (Jvm.Cond.fieldLink "RoarMillModel" (36 : Nat) "RoarMillModel" "seenHour" "[I") ∈ lw_all := lw_g (lw_at lw_m5 123 rfl) rfl
theorem q1166 : (Jvm.Cond.fieldLink "RoarMillModel" (39 : Nat) "RoarMillModel" "seenWhat" "[I") ∈ lw_all := lw_g (lw_at lw_m5 124 rfl) rfl
theorem q1167 : (Jvm.Cond.fieldLink "RoarMillModel" (42 : Nat) "RoarMillModel" "seenValue" "[I") ∈ lw_all := lw_g (lw_at lw_m5 125 rfl) rfl
theorem q1168 : (Jvm.Cond.fieldLink "RoarMillModel" (45 : Nat) "RoarMillModel" "seenOff" "[I") ∈ lw_all := lw_g (lw_at lw_m5 126 rfl) rfl
theorem q1169 : (Jvm.Cond.fieldLink "RoarMillModel" (48 : Nat) "RoarMillModel" "fit" "[I") ∈ lw_all := lw_g (lw_at lw_m5 127 rfl) rfl
theorem q1170 : (Jvm.Cond.fieldLink "RoarMillModel" (296 : Nat) "RoarMillModel" "planned" "I") ∈ lw_all := lw_g (lw_at lw_m5 128 rfl) rfl
theorem q1171 : (Jvm.Cond.fieldLink "RoarMillModel" (51 : Nat) "RoarMillModel" "plan" "[I") ∈ lw_all := lw_g (lw_at lw_m5 129 rfl) rfl
theorem q1172 : (Jvm.Cond.fieldLink "RoarMillModel" (54 : Nat) "RoarMillModel" "rates" "[I") ∈ lw_all := lw_g (lw_at lw_m5 130 rfl) rfl
theorem q1173 : (Jvm.Cond.fieldLink "RoarMillModel" (57 : Nat) "RoarMillModel" "trial" "[I") ∈ lw_all := lw_g (lw_at lw_m5 131 rfl) rfl
theorem q1174 : (Jvm.Cond.fieldLink "RoarMillModel" (60 : Nat) "RoarMillModel" "rows" "[I") ∈ lw_all := lw_g (lw_at lw_m5 132 rfl) rfl
theorem q1175 : (Jvm.Cond.fieldLink "RoarMillModel" (63 : Nat) "RoarMillModel" "told" "[I") ∈ lw_all := lw_g (lw_at lw_m5 133 rfl) rfl
theorem q1176 : (Jvm.Cond.fieldLink "RoarMillModel" (66 : Nat) "RoarMillModel" "marked" "[J") ∈ lw_all := lw_g (lw_at lw_m5 134 rfl) rfl
theorem q1177 : (Jvm.Cond.fieldLink "RoarMillModel" (70 : Nat) "RoarMillModel" "markedBack" "[J") ∈ lw_all := lw_g (lw_at lw_m5 135 rfl) rfl
theorem q1178 : (Jvm.Cond.lays "RoarMillModel" "RoarMillModel" "thrown" "I") ∈ lw_all := lw_g (lw_at lw_m5 136 rfl) rfl
theorem q1179 : (Jvm.Cond.soleField "RoarMillModel" "thrown") ∈ lw_all := lw_g (lw_at lw_m5 137 rfl) rfl
theorem q1180 : (Jvm.Cond.lays "RoarMillModel" "RoarMillModel" "trouble" "I") ∈ lw_all := lw_g (lw_at lw_m5 138 rfl) rfl
theorem q1181 : (Jvm.Cond.soleField "RoarMillModel" "trouble") ∈ lw_all := lw_g (lw_at lw_m5 139 rfl) rfl
theorem q1182 : (Jvm.Cond.lays "RoarMillModel" "RoarMillModel" "where" "I") ∈ lw_all := lw_g (lw_at lw_m5 140 rfl) rfl
theorem q1183 : (Jvm.Cond.soleField "RoarMillModel" "where") ∈ lw_all := lw_g (lw_at lw_m5 141 rfl) rfl
theorem q1184 : (Jvm.Cond.lays "RoarMillModel" "RoarMillModel" "mill" "LRoarMillModel$Mill;") ∈ lw_all := lw_g (lw_at lw_m5 142 rfl) rfl
theorem q1185 : (Jvm.Cond.soleField "RoarMillModel" "mill") ∈ lw_all := lw_g (lw_at lw_m5 143 rfl) rfl
theorem q1186 : (Jvm.Cond.lays "RoarMillModel" "RoarMillModel" "fresh" "LRoarMillModel$Mill;") ∈ lw_all := lw_g (lw_at lw_m5 144 rfl) rfl
theorem q1187 : (Jvm.Cond.soleField "RoarMillModel" "fresh") ∈ lw_all := lw_g (lw_at lw_m5 145 rfl) rfl
theorem q1188 : (Jvm.Cond.laysFinal "RoarMillModel" "RoarMillModel" "tape" "[B") ∈ lw_all := lw_g (lw_at lw_m5 146 rfl) rfl
theorem q1189 : (Jvm.Cond.soleField "RoarMillModel" "tape") ∈ lw_all := lw_g (lw_at lw_m5 147 rfl) rfl
theorem q1190 : (Jvm.Cond.lays "RoarMillModel" "RoarMillModel" "taped" "I") ∈ lw_all := lw_g (lw_at lw_m5 148 rfl) rfl
theorem q1191 : (Jvm.Cond.soleField "RoarMillModel" "taped") ∈ lw_all := lw_g (lw_at lw_m5 149 rfl) rfl
theorem q1192 : (Jvm.Cond.lays "RoarMillModel" "RoarMillModel" "size" "I") ∈ lw_all := lw_g (lw_at lw_m5 150 rfl) rfl
theorem q1193 : (Jvm.Cond.soleField "RoarMillModel" "size") ∈ lw_all := lw_g (lw_at lw_m5 151 rfl) rfl
theorem q1194 : (Jvm.Cond.lays "RoarMillModel" "RoarMillModel" "at" "I") ∈ lw_all := lw_g (lw_at lw_m5 152 rfl) rfl
theorem q1195 : (Jvm.Cond.soleField "RoarMillModel" "at") ∈ lw_all := lw_g (lw_at lw_m5 153 rfl) rfl
theorem q1196 : (Jvm.Cond.lays "RoarMillModel" "RoarMillModel" "sort" "I") ∈ lw_all := lw_g (lw_at lw_m5 154 rfl) rfl
theorem q1197 : (Jvm.Cond.soleField "RoarMillModel" "sort") ∈ lw_all := lw_g (lw_at lw_m5 155 rfl) rfl
theorem q1198 : (Jvm.Cond.lays "RoarMillModel" "RoarMillModel" "place" "I") ∈ lw_all := lw_g (lw_at lw_m5 156 rfl) rfl
theorem q1199 : (Jvm.Cond.soleField "RoarMillModel" "place") ∈ lw_all := lw_g (lw_at lw_m5 157 rfl) rfl
theorem q1200 : (Jvm.Cond.lays "RoarMillModel" "RoarMillModel" "mark" "I") ∈ lw_all := lw_g (lw_at lw_m5 158 rfl) rfl
theorem q1201 : (Jvm.Cond.soleField "RoarMillModel" "mark") ∈ lw_all := lw_g (lw_at lw_m5 159 rfl) rfl
theorem q1202 : (Jvm.Cond.lays "RoarMillModel" "RoarMillModel" "number" "I") ∈ lw_all := lw_g (lw_at lw_m5 160 rfl) rfl
theorem q1203 : (Jvm.Cond.soleField "RoarMillModel" "number") ∈ lw_all := lw_g (lw_at lw_m5 161 rfl) rfl
theorem q1204 : (Jvm.Cond.lays "RoarMillModel" "RoarMillModel" "fault" "I") ∈ lw_all := lw_g (lw_at lw_m5 162 rfl) rfl
theorem q1205 : (Jvm.Cond.soleField "RoarMillModel" "fault") ∈ lw_all := lw_g (lw_at lw_m5 163 rfl) rfl
theorem q1206 : (Jvm.Cond.lays "RoarMillModel" "RoarMillModel" "wrongAt" "I") ∈ lw_all := lw_g (lw_at lw_m5 164 rfl) rfl
theorem q1207 : (Jvm.Cond.soleField "RoarMillModel" "wrongAt") ∈ lw_all := lw_g (lw_at lw_m5 165 rfl) rfl
theorem q1208 : (Jvm.Cond.lays "RoarMillModel" "RoarMillModel" "word" "J") ∈ lw_all := lw_g (lw_at lw_m5 166 rfl) rfl
theorem q1209 : (Jvm.Cond.soleField "RoarMillModel" "word") ∈ lw_all := lw_g (lw_at lw_m5 167 rfl) rfl
theorem q1210 : (Jvm.Cond.laysFinal "RoarMillModel" "RoarMillModel" "state" "[I") ∈ lw_all := lw_g (lw_at lw_m5 168 rfl) rfl
theorem q1211 : (Jvm.Cond.soleField "RoarMillModel" "state") ∈ lw_all := lw_g (lw_at lw_m5 169 rfl) rfl
theorem q1212 : (Jvm.Cond.laysFinal "RoarMillModel" "RoarMillModel" "twin" "[I") ∈ lw_all := lw_g (lw_at lw_m5 170 rfl) rfl
theorem q1213 : (Jvm.Cond.soleField "RoarMillModel" "twin") ∈ lw_all := lw_g (lw_at lw_m5 171 rfl) rfl
theorem q1214 : (Jvm.Cond.lays "RoarMillModel" "RoarMillModel" "stood" "I") ∈ lw_all := lw_g (lw_at lw_m5 172 rfl) rfl
theorem q1215 : (Jvm.Cond.soleField "RoarMillModel" "stood") ∈ lw_all := lw_g (lw_at lw_m5 173 rfl) rfl
theorem q1216 : (Jvm.Cond.laysFinal "RoarMillModel" "RoarMillModel" "stands" "[I") ∈ lw_all := lw_g (lw_at lw_m5 174 rfl) rfl
theorem q1217 : (Jvm.Cond.soleField "RoarMillModel" "stands") ∈ lw_all := lw_g (lw_at lw_m5 175 rfl) rfl
theorem q1218 : (Jvm.Cond.laysFinal "RoarMillModel" "RoarMillModel" "programRate" "[I") ∈ lw_all := lw_g (lw_at lw_m5 176 rfl) rfl
theorem q1219 : (Jvm.Cond.soleField "RoarMillModel" "programRate") ∈ lw_all := lw_g (lw_at lw_m5 177 rfl) rfl
theorem q1220 : (Jvm.Cond.laysFinal "RoarMillModel" "RoarMillModel" "programWater" "[I") ∈ lw_all := lw_g (lw_at lw_m5 178 rfl) rfl
theorem q1221 : (Jvm.Cond.soleField "RoarMillModel" "programWater") ∈ lw_all := lw_g (lw_at lw_m5 179 rfl) rfl
theorem q1222 : (Jvm.Cond.laysFinal "RoarMillModel" "RoarMillModel" "programOre" "[I") ∈ lw_all := lw_g (lw_at lw_m5 180 rfl) rfl
theorem q1223 : (Jvm.Cond.soleField "RoarMillModel" "programOre") ∈ lw_all := lw_g (lw_at lw_m5 181 rfl) rfl
theorem q1224 : (Jvm.Cond.lays "RoarMillModel" "RoarMillModel" "seen" "I") ∈ lw_all := lw_g (lw_at lw_m5 182 rfl) rfl
theorem q1225 : (Jvm.Cond.soleField "RoarMillModel" "seen") ∈ lw_all := lw_g (lw_at lw_m5 183 rfl) rfl
theorem q1226 : (Jvm.Cond.laysFinal "RoarMillModel" "RoarMillModel" "seenHour" "[I") ∈ lw_all := lw_g (lw_at lw_m5 184 rfl) rfl
theorem q1227 : (Jvm.Cond.soleField "RoarMillModel" "seenHour") ∈ lw_all := lw_g (lw_at lw_m5 185 rfl) rfl
theorem q1228 : (Jvm.Cond.laysFinal "RoarMillModel" "RoarMillModel" "seenWhat" "[I") ∈ lw_all := lw_g (lw_at lw_m5 186 rfl) rfl
theorem q1229 : (Jvm.Cond.soleField "RoarMillModel" "seenWhat") ∈ lw_all := lw_g (lw_at lw_m5 187 rfl) rfl
theorem q1230 : (Jvm.Cond.laysFinal "RoarMillModel" "RoarMillModel" "seenValue" "[I") ∈ lw_all := lw_g (lw_at lw_m5 188 rfl) rfl
theorem q1231 : (Jvm.Cond.soleField "RoarMillModel" "seenValue") ∈ lw_all := lw_g (lw_at lw_m5 189 rfl) rfl
theorem q1232 : (Jvm.Cond.laysFinal "RoarMillModel" "RoarMillModel" "seenOff" "[I") ∈ lw_all := lw_g (lw_at lw_m5 190 rfl) rfl
theorem q1233 : (Jvm.Cond.soleField "RoarMillModel" "seenOff") ∈ lw_all := lw_g (lw_at lw_m5 191 rfl) rfl
theorem q1234 : (Jvm.Cond.laysFinal "RoarMillModel" "RoarMillModel" "fit" "[I") ∈ lw_all := lw_g (lw_at lw_m5 192 rfl) rfl
theorem q1235 : (Jvm.Cond.soleField "RoarMillModel" "fit") ∈ lw_all := lw_g (lw_at lw_m5 193 rfl) rfl
theorem q1236 : (Jvm.Cond.lays "RoarMillModel" "RoarMillModel" "planned" "I") ∈ lw_all := lw_g (lw_at lw_m5 194 rfl) rfl
theorem q1237 : (Jvm.Cond.soleField "RoarMillModel" "planned") ∈ lw_all := lw_g (lw_at lw_m5 195 rfl) rfl
theorem q1238 : (Jvm.Cond.laysFinal "RoarMillModel" "RoarMillModel" "plan" "[I") ∈ lw_all := lw_g (lw_at lw_m5 196 rfl) rfl
theorem q1239 : (Jvm.Cond.soleField "RoarMillModel" "plan") ∈ lw_all := lw_g (lw_at lw_m5 197 rfl) rfl
theorem q1240 : (Jvm.Cond.laysFinal "RoarMillModel" "RoarMillModel" "rates" "[I") ∈ lw_all := lw_g (lw_at lw_m5 198 rfl) rfl
theorem q1241 : (Jvm.Cond.soleField "RoarMillModel" "rates") ∈ lw_all := lw_g (lw_at lw_m5 199 rfl) rfl
theorem q1242 : (Jvm.Cond.laysFinal "RoarMillModel" "RoarMillModel" "trial" "[I") ∈ lw_all := lw_g (lw_at lw_m5 200 rfl) rfl
theorem q1243 : (Jvm.Cond.soleField "RoarMillModel" "trial") ∈ lw_all := lw_g (lw_at lw_m5 201 rfl) rfl
theorem q1244 : (Jvm.Cond.laysFinal "RoarMillModel" "RoarMillModel" "rows" "[I") ∈ lw_all := lw_g (lw_at lw_m5 202 rfl) rfl
theorem q1245 : (Jvm.Cond.soleField "RoarMillModel" "rows") ∈ lw_all := lw_g (lw_at lw_m5 203 rfl) rfl
theorem q1246 : (Jvm.Cond.laysFinal "RoarMillModel" "RoarMillModel" "told" "[I") ∈ lw_all := lw_g (lw_at lw_m5 204 rfl) rfl
theorem q1247 : (Jvm.Cond.soleField "RoarMillModel" "told") ∈ lw_all := lw_g (lw_at lw_m5 205 rfl) rfl
theorem q1248 : (Jvm.Cond.laysFinal "RoarMillModel" "RoarMillModel" "marked" "[J") ∈ lw_all := lw_g (lw_at lw_m5 206 rfl) rfl
theorem q1249 : (Jvm.Cond.soleField "RoarMillModel" "marked") ∈ lw_all := lw_g (lw_at lw_m5 207 rfl) rfl
theorem q1250 : (Jvm.Cond.laysFinal "RoarMillModel" "RoarMillModel" "markedBack" "[J") ∈ lw_all := lw_g (lw_at lw_m5 208 rfl) rfl
theorem q1251 : (Jvm.Cond.soleField "RoarMillModel" "markedBack") ∈ lw_all := lw_g (lw_at lw_m5 209 rfl) rfl
theorem q1252 : (Jvm.Cond.superclass "RoarMillModel" "java/lang/Object") ∈ lw_all := lw_g (lw_at lw_m5 210 rfl) rfl
theorem q1254 : (Jvm.Cond.instanceMethod ({ cls := "RoarMillModel", name := "thrown", desc := "()I" } : Jvm.MethodName)) ∈ lw_all := lw_g (lw_at lw_m5 212 rfl) rfl
theorem q1255 : (Jvm.Cond.selects "RoarMillModel" ({ cls := "RoarMillModel", name := "thrown", desc := "()I" } : Jvm.MethodName) ({ cls := "RoarMillModel", name := "thrown", desc := "()I" } : Jvm.MethodName)) ∈ lw_all := lw_g (lw_at lw_m5 213 rfl) rfl
theorem q1256 : (Jvm.Cond.code ({ cls := "RoarMillModel", name := "thrown", desc := "()I" } : Jvm.MethodName) prog_14_method_2_code (1 : Nat) (Option.some Jvm.ClassFile.FieldType.int)) ∈ lw_all := lw_g (lw_at lw_m5 214 rfl) rfl
theorem q1258 : (Jvm.Cond.instanceMethod ({ cls := "RoarMillModel", name := "feed", desc := "(IIIII)I" } : Jvm.MethodName)) ∈ lw_all := lw_g (lw_at lw_m5 216 rfl) rfl
theorem q1259 : (Jvm.Cond.selects "RoarMillModel" ({ cls := "RoarMillModel", name := "feed", desc := "(IIIII)I" } : Jvm.MethodName) ({ cls := "RoarMillModel", name := "feed", desc := "(IIIII)I" } : Jvm.MethodName)) ∈ lw_all := lw_g (lw_at lw_m5 217 rfl) rfl
theorem q1260 : (Jvm.Cond.code ({ cls := "RoarMillModel", name := "feed", desc := "(IIIII)I" } : Jvm.MethodName) prog_14_method_31_code (8 : Nat) (Option.some Jvm.ClassFile.FieldType.int)) ∈ lw_all := lw_g (lw_at lw_m5 218 rfl) rfl
theorem q1262 : (Jvm.Cond.instanceMethod ({ cls := "RoarMillModel", name := "mill", desc := "(I)I" } : Jvm.MethodName)) ∈ lw_all := lw_g (lw_at lw_m5 220 rfl) rfl
theorem q1263 : (Jvm.Cond.selects "RoarMillModel" ({ cls := "RoarMillModel", name := "mill", desc := "(I)I" } : Jvm.MethodName) ({ cls := "RoarMillModel", name := "mill", desc := "(I)I" } : Jvm.MethodName)) ∈ lw_all := lw_g (lw_at lw_m5 221 rfl) rfl
theorem q1264 : (Jvm.Cond.code ({ cls := "RoarMillModel", name := "mill", desc := "(I)I" } : Jvm.MethodName) prog_14_method_32_code (3 : Nat) (Option.some Jvm.ClassFile.FieldType.int)) ∈ lw_all := lw_g (lw_at lw_m5 222 rfl) rfl
theorem q1265 : (Jvm.Cond.methodLink "RoarMillModel" (283 : Nat) ({ cls := "RoarMillModel", name := "refused", desc := "(I)I" } : Jvm.MethodName)) ∈ lw_all := lw_g (lw_at lw_m5 223 rfl) rfl
theorem q1266 : (Jvm.Cond.privateMethod ({ cls := "RoarMillModel", name := "refused", desc := "(I)I" } : Jvm.MethodName)) ∈ lw_tbl := lw_at lw_m5 224 rfl
theorem q1267 : (Jvm.Cond.instanceMethod ({ cls := "RoarMillModel", name := "refused", desc := "(I)I" } : Jvm.MethodName)) ∈ lw_all := lw_g (lw_at lw_m5 225 rfl) rfl
theorem q1268 : (Jvm.Cond.code ({ cls := "RoarMillModel", name := "refused", desc := "(I)I" } : Jvm.MethodName) prog_14_method_3_code (2 : Nat) (Option.some Jvm.ClassFile.FieldType.int)) ∈ lw_all := lw_g (lw_at lw_m5 226 rfl) rfl
theorem q1269 : (Jvm.Cond.classLink "RoarMillModel" (177 : Nat) "RoarMillModel$Mill") ∈ lw_all := lw_g (lw_at lw_m5 227 rfl) rfl
theorem q1271 : (Jvm.Cond.methodLinkNest "RoarMillModel" (286 : Nat) ({ cls := "RoarMillModel$Mill", name := "<init>", desc := "()V" } : Jvm.MethodName) "RoarMillModel") ∈ lw_tbl := lw_at lw_m5 229 rfl
theorem q1276 : (Jvm.Cond.fieldLinkNest "RoarMillModel" (176 : Nat) "RoarMillModel$Mill" "room" "I" "RoarMillModel") ∈ lw_tbl := lw_at lw_m5 234 rfl
theorem q1277 : (Jvm.Cond.fieldLinkNest "RoarMillModel" (233 : Nat) "RoarMillModel$Mill" "loud" "I" "RoarMillModel") ∈ lw_tbl := lw_at lw_m5 235 rfl
theorem q1279 : (Jvm.Cond.fieldLinkNest "RoarMillModel" (181 : Nat) "RoarMillModel$Mill" "sieve" "I" "RoarMillModel") ∈ lw_tbl := lw_at lw_m5 237 rfl
theorem q1280 : (Jvm.Cond.fieldLinkNest "RoarMillModel" (248 : Nat) "RoarMillModel$Mill" "slips" "I" "RoarMillModel") ∈ lw_tbl := lw_at lw_m5 238 rfl
theorem q1282 : (Jvm.Cond.fieldLinkNest "RoarMillModel" (183 : Nat) "RoarMillModel$Mill" "life" "I" "RoarMillModel") ∈ lw_tbl := lw_at lw_m6 0 rfl
theorem q1284 : (Jvm.Cond.fieldLinkNest "RoarMillModel" (186 : Nat) "RoarMillModel$Mill" "bin" "I" "RoarMillModel") ∈ lw_tbl := lw_at lw_m6 2 rfl
theorem q1285 : (Jvm.Cond.fieldLinkNest "RoarMillModel" (252 : Nat) "RoarMillModel$Mill" "draws" "I" "RoarMillModel") ∈ lw_tbl := lw_at lw_m6 3 rfl
theorem q1286 : (Jvm.Cond.fieldLinkNest "RoarMillModel" (188 : Nat) "RoarMillModel$Mill" "prices" "I" "RoarMillModel") ∈ lw_tbl := lw_at lw_m6 4 rfl
theorem q1287 : (Jvm.Cond.fieldLinkNest "RoarMillModel" (191 : Nat) "RoarMillModel$Mill" "sizes" "I" "RoarMillModel") ∈ lw_tbl := lw_at lw_m6 5 rfl
theorem q1288 : (Jvm.Cond.fieldLinkNest "RoarMillModel" (194 : Nat) "RoarMillModel$Mill" "ores" "I" "RoarMillModel") ∈ lw_tbl := lw_at lw_m6 6 rfl
theorem q1290 : (Jvm.Cond.fieldLinkNest "RoarMillModel" (259 : Nat) "RoarMillModel$Mill" "names" "I" "RoarMillModel") ∈ lw_tbl := lw_at lw_m6 8 rfl
theorem q1292 : (Jvm.Cond.fieldLinkNest "RoarMillModel" (254 : Nat) "RoarMillModel$Mill" "price" "[I" "RoarMillModel") ∈ lw_tbl := lw_at lw_m6 10 rfl
theorem q1294 : (Jvm.Cond.fieldLinkNest "RoarMillModel" (267 : Nat) "RoarMillModel$Mill" "breaks" "[I" "RoarMillModel") ∈ lw_tbl := lw_at lw_m6 12 rfl
theorem q1296 : (Jvm.Cond.fieldLinkNest "RoarMillModel" (270 : Nat) "RoarMillModel$Mill" "next" "[I" "RoarMillModel") ∈ lw_tbl := lw_at lw_m6 14 rfl
theorem q1298 : (Jvm.Cond.fieldLinkNest "RoarMillModel" (276 : Nat) "RoarMillModel$Mill" "hard" "[I" "RoarMillModel") ∈ lw_tbl := lw_at lw_m6 16 rfl
theorem q1300 : (Jvm.Cond.fieldLinkNest "RoarMillModel" (278 : Nat) "RoarMillModel$Mill" "tons" "[I" "RoarMillModel") ∈ lw_tbl := lw_at lw_m6 18 rfl
theorem q1302 : (Jvm.Cond.fieldLinkNest "RoarMillModel" (256 : Nat) "RoarMillModel$Mill" "name" "[J" "RoarMillModel") ∈ lw_tbl := lw_at lw_m6 20 rfl
theorem q1304 : (Jvm.Cond.fieldLinkNest "RoarMillModel" (243 : Nat) "RoarMillModel$Mill" "sense" "[I" "RoarMillModel") ∈ lw_tbl := lw_at lw_m6 22 rfl
theorem q1342 : (Jvm.Cond.methodLink "RoarMillModel" (146 : Nat) ({ cls := "RoarMillModel", name := "next", desc := "()V" } : Jvm.MethodName)) ∈ lw_all := lw_g (lw_at lw_m6 60 rfl) rfl
theorem q1343 : (Jvm.Cond.privateMethod ({ cls := "RoarMillModel", name := "next", desc := "()V" } : Jvm.MethodName)) ∈ lw_tbl := lw_at lw_m6 61 rfl
theorem q1344 : (Jvm.Cond.instanceMethod ({ cls := "RoarMillModel", name := "next", desc := "()V" } : Jvm.MethodName)) ∈ lw_all := lw_g (lw_at lw_m6 62 rfl) rfl
theorem q1345 : (Jvm.Cond.code ({ cls := "RoarMillModel", name := "next", desc := "()V" } : Jvm.MethodName) prog_14_method_12_code (3 : Nat) (Option.none : Option Jvm.ClassFile.FieldType)) ∈ lw_all := lw_g (lw_at lw_m6 63 rfl) rfl
theorem q1346 : (Jvm.Cond.methodLink "RoarMillModel" (100 : Nat) ({ cls := "RoarMillModel", name := "byteAt", desc := "(I)I" } : Jvm.MethodName)) ∈ lw_all := lw_g (lw_at lw_m6 64 rfl) rfl
theorem q1347 : (Jvm.Cond.privateMethod ({ cls := "RoarMillModel", name := "byteAt", desc := "(I)I" } : Jvm.MethodName)) ∈ lw_tbl := lw_at lw_m6 65 rfl
theorem q1348 : (Jvm.Cond.instanceMethod ({ cls := "RoarMillModel", name := "byteAt", desc := "(I)I" } : Jvm.MethodName)) ∈ lw_all := lw_g (lw_at lw_m6 66 rfl) rfl
theorem q1349 : (Jvm.Cond.code ({ cls := "RoarMillModel", name := "byteAt", desc := "(I)I" } : Jvm.MethodName) prog_14_method_8_code (2 : Nat) (Option.some Jvm.ClassFile.FieldType.int)) ∈ lw_all := lw_g (lw_at lw_m6 67 rfl) rfl
theorem q1350 : (Jvm.Cond.methodLink "RoarMillModel" (110 : Nat) ({ cls := "RoarMillModel", name := "isLetter", desc := "(I)Z" } : Jvm.MethodName)) ∈ lw_all := lw_g (lw_at lw_m6 68 rfl) rfl
theorem q1351 : (Jvm.Cond.static ({ cls := "RoarMillModel", name := "isLetter", desc := "(I)Z" } : Jvm.MethodName)) ∈ lw_all := lw_g (lw_at lw_m6 69 rfl) rfl
theorem q1352 : (Jvm.Cond.code ({ cls := "RoarMillModel", name := "isLetter", desc := "(I)Z" } : Jvm.MethodName) prog_14_method_9_code (1 : Nat) (Option.some Jvm.ClassFile.FieldType.boolean)) ∈ lw_all := lw_g (lw_at lw_m6 70 rfl) rfl
theorem q1353 : (Jvm.Cond.constantLong "RoarMillModel" (88 : Nat) (32 : Int64)) ∈ lw_all := lw_g (lw_at lw_m6 71 rfl) rfl
theorem q1354 : (Jvm.Cond.methodLink "RoarMillModel" (118 : Nat) ({ cls := "RoarMillModel", name := "isDigit", desc := "(I)Z" } : Jvm.MethodName)) ∈ lw_all := lw_g (lw_at lw_m6 72 rfl) rfl
theorem q1355 : (Jvm.Cond.static ({ cls := "RoarMillModel", name := "isDigit", desc := "(I)Z" } : Jvm.MethodName)) ∈ lw_all := lw_g (lw_at lw_m6 73 rfl) rfl
theorem q1356 : (Jvm.Cond.code ({ cls := "RoarMillModel", name := "isDigit", desc := "(I)Z" } : Jvm.MethodName) prog_14_method_10_code (1 : Nat) (Option.some Jvm.ClassFile.FieldType.boolean)) ∈ lw_all := lw_g (lw_at lw_m6 74 rfl) rfl
theorem q1357 : (Jvm.Cond.methodLink "RoarMillModel" (287 : Nat) ({ cls := "RoarMillModel", name := "readMill", desc := "()V" } : Jvm.MethodName)) ∈ lw_all := lw_g (lw_at lw_m6 75 rfl) rfl
theorem q1358 : (Jvm.Cond.privateMethod ({ cls := "RoarMillModel", name := "readMill", desc := "()V" } : Jvm.MethodName)) ∈ lw_tbl := lw_at lw_m6 76 rfl
theorem q1359 : (Jvm.Cond.instanceMethod ({ cls := "RoarMillModel", name := "readMill", desc := "()V" } : Jvm.MethodName)) ∈ lw_all := lw_g (lw_at lw_m6 77 rfl) rfl
theorem q1360 : (Jvm.Cond.code ({ cls := "RoarMillModel", name := "readMill", desc := "()V" } : Jvm.MethodName) prog_14_method_20_code (3 : Nat) (Option.none : Option Jvm.ClassFile.FieldType)) ∈ lw_all := lw_g (lw_at lw_m6 78 rfl) rfl
theorem q1361 : (Jvm.Cond.methodLink "RoarMillModel" (166 : Nat) ({ cls := "RoarMillModel", name := "readLine", desc := "()V" } : Jvm.MethodName)) ∈ lw_all := lw_g (lw_at lw_m6 79 rfl) rfl
theorem q1362 : (Jvm.Cond.privateMethod ({ cls := "RoarMillModel", name := "readLine", desc := "()V" } : Jvm.MethodName)) ∈ lw_tbl := lw_at lw_m6 80 rfl
theorem q1363 : (Jvm.Cond.instanceMethod ({ cls := "RoarMillModel", name := "readLine", desc := "()V" } : Jvm.MethodName)) ∈ lw_all := lw_g (lw_at lw_m6 81 rfl) rfl
theorem q1364 : (Jvm.Cond.code ({ cls := "RoarMillModel", name := "readLine", desc := "()V" } : Jvm.MethodName) prog_14_method_21_code (1 : Nat) (Option.none : Option Jvm.ClassFile.FieldType)) ∈ lw_all := lw_g (lw_at lw_m6 82 rfl) rfl
theorem q1365 : (Jvm.Cond.stringRef "RoarMillModel" (153 : Nat) "drum") ∈ lw_tbl := lw_at lw_m6 83 rfl
theorem q1366 : (Jvm.Cond.methodLink "RoarMillModel" (138 : Nat) ({ cls := "RoarMillModel", name := "isWord", desc := "(Ljava/lang/String;)Z" } : Jvm.MethodName)) ∈ lw_all := lw_g (lw_at lw_m6 84 rfl) rfl
theorem q1367 : (Jvm.Cond.privateMethod ({ cls := "RoarMillModel", name := "isWord", desc := "(Ljava/lang/String;)Z" } : Jvm.MethodName)) ∈ lw_tbl := lw_at lw_m6 85 rfl
theorem q1368 : (Jvm.Cond.instanceMethod ({ cls := "RoarMillModel", name := "isWord", desc := "(Ljava/lang/String;)Z" } : Jvm.MethodName)) ∈ lw_all := lw_g (lw_at lw_m6 86 rfl) rfl
theorem q1369 : (Jvm.Cond.code ({ cls := "RoarMillModel", name := "isWord", desc := "(Ljava/lang/String;)Z" } : Jvm.MethodName) prog_14_method_15_code (2 : Nat) (Option.some Jvm.ClassFile.FieldType.boolean)) ∈ lw_all := lw_g (lw_at lw_m6 87 rfl) rfl
theorem q1370 : (Jvm.Cond.methodLink "RoarMillModel" (134 : Nat) ({ cls := "RoarMillModel", name := "wordOf", desc := "(Ljava/lang/String;)J" } : Jvm.MethodName)) ∈ lw_all := lw_g (lw_at lw_m6 88 rfl) rfl
theorem q1371 : (Jvm.Cond.static ({ cls := "RoarMillModel", name := "wordOf", desc := "(Ljava/lang/String;)J" } : Jvm.MethodName)) ∈ lw_all := lw_g (lw_at lw_m6 89 rfl) rfl
theorem q1372 : (Jvm.Cond.code ({ cls := "RoarMillModel", name := "wordOf", desc := "(Ljava/lang/String;)J" } : Jvm.MethodName) prog_14_method_11_code (4 : Nat) (Option.some Jvm.ClassFile.FieldType.long)) ∈ lw_all := lw_g (lw_at lw_m6 90 rfl) rfl
theorem q1373 : (Jvm.Cond.methodLink "RoarMillModel" (82 : Nat) ({ cls := "java/lang/String", name := "length", desc := "()I" } : Jvm.MethodName)) ∈ lw_all := lw_g (lw_at lw_m6 91 rfl) rfl
theorem q1381 : (Jvm.Cond.methodLink "RoarMillModel" (90 : Nat) ({ cls := "java/lang/String", name := "charAt", desc := "(I)C" } : Jvm.MethodName)) ∈ lw_all := lw_g (lw_at lw_m6 99 rfl) rfl
theorem q1401 : (Jvm.Cond.methodLink "RoarMillModel" (197 : Nat) ({ cls := "RoarMillModel", name := "readDrum", desc := "()V" } : Jvm.MethodName)) ∈ lw_all := lw_g (lw_at lw_m6 119 rfl) rfl
theorem q1402 : (Jvm.Cond.privateMethod ({ cls := "RoarMillModel", name := "readDrum", desc := "()V" } : Jvm.MethodName)) ∈ lw_tbl := lw_at lw_m6 120 rfl
theorem q1403 : (Jvm.Cond.instanceMethod ({ cls := "RoarMillModel", name := "readDrum", desc := "()V" } : Jvm.MethodName)) ∈ lw_all := lw_g (lw_at lw_m6 121 rfl) rfl
theorem q1404 : (Jvm.Cond.code ({ cls := "RoarMillModel", name := "readDrum", desc := "()V" } : Jvm.MethodName) prog_14_method_23_code (1 : Nat) (Option.none : Option Jvm.ClassFile.FieldType)) ∈ lw_all := lw_g (lw_at lw_m6 122 rfl) rfl
theorem q1405 : (Jvm.Cond.methodLink "RoarMillModel" (218 : Nat) ({ cls := "RoarMillModel", name := "once", desc := "(Z)V" } : Jvm.MethodName)) ∈ lw_all := lw_g (lw_at lw_m6 123 rfl) rfl
theorem q1406 : (Jvm.Cond.privateMethod ({ cls := "RoarMillModel", name := "once", desc := "(Z)V" } : Jvm.MethodName)) ∈ lw_tbl := lw_at lw_m6 124 rfl
theorem q1407 : (Jvm.Cond.instanceMethod ({ cls := "RoarMillModel", name := "once", desc := "(Z)V" } : Jvm.MethodName)) ∈ lw_all := lw_g (lw_at lw_m6 125 rfl) rfl
theorem q1408 : (Jvm.Cond.code ({ cls := "RoarMillModel", name := "once", desc := "(Z)V" } : Jvm.MethodName) prog_14_method_22_code (2 : Nat) (Option.none : Option Jvm.ClassFile.FieldType)) ∈ lw_all := lw_g (lw_at lw_m6 126 rfl) rfl
theorem q1409 : (Jvm.Cond.methodLink "RoarMillModel" (142 : Nat) ({ cls := "RoarMillModel", name := "wrong", desc := "(I)V" } : Jvm.MethodName)) ∈ lw_all := lw_g (lw_at lw_m6 127 rfl) rfl
theorem q1410 : (Jvm.Cond.privateMethod ({ cls := "RoarMillModel", name := "wrong", desc := "(I)V" } : Jvm.MethodName)) ∈ lw_tbl := lw_at lw_m6 128 rfl
theorem q1411 : (Jvm.Cond.instanceMethod ({ cls := "RoarMillModel", name := "wrong", desc := "(I)V" } : Jvm.MethodName)) ∈ lw_all := lw_g (lw_at lw_m6 129 rfl) rfl
theorem q1412 : (Jvm.Cond.code ({ cls := "RoarMillModel", name := "wrong", desc := "(I)V" } : Jvm.MethodName) prog_14_method_13_code (2 : Nat) (Option.none : Option Jvm.ClassFile.FieldType)) ∈ lw_all := lw_g (lw_at lw_m6 130 rfl) rfl
theorem q1413 : (Jvm.Cond.methodLink "RoarMillModel" (124 : Nat) ({ cls := "RoarMillModel", name := "wrongHere", desc := "(II)V" } : Jvm.MethodName)) ∈ lw_all := lw_g (lw_at lw_m6 131 rfl) rfl
theorem q1414 : (Jvm.Cond.privateMethod ({ cls := "RoarMillModel", name := "wrongHere", desc := "(II)V" } : Jvm.MethodName)) ∈ lw_tbl := lw_at lw_m6 132 rfl
theorem q1415 : (Jvm.Cond.instanceMethod ({ cls := "RoarMillModel", name := "wrongHere", desc := "(II)V" } : Jvm.MethodName)) ∈ lw_all := lw_g (lw_at lw_m6 133 rfl) rfl
theorem q1416 : (Jvm.Cond.code ({ cls := "RoarMillModel", name := "wrongHere", desc := "(II)V" } : Jvm.MethodName) prog_14_method_14_code (3 : Nat) (Option.none : Option Jvm.ClassFile.FieldType)) ∈ lw_all := lw_g (lw_at lw_m6 134 rfl) rfl
theorem q1417 : (Jvm.Cond.stringRef "RoarMillModel" (222 : Nat) "room") ∈ lw_tbl := lw_at lw_m6 135 rfl
theorem q1418 : (Jvm.Cond.methodLink "RoarMillModel" (223 : Nat) ({ cls := "RoarMillModel", name := "needWord", desc := "(Ljava/lang/String;)V" } : Jvm.MethodName)) ∈ lw_all := lw_g (lw_at lw_m6 136 rfl) rfl
theorem q1419 : (Jvm.Cond.privateMethod ({ cls := "RoarMillModel", name := "needWord", desc := "(Ljava/lang/String;)V" } : Jvm.MethodName)) ∈ lw_tbl := lw_at lw_m6 137 rfl
theorem q1420 : (Jvm.Cond.instanceMethod ({ cls := "RoarMillModel", name := "needWord", desc := "(Ljava/lang/String;)V" } : Jvm.MethodName)) ∈ lw_all := lw_g (lw_at lw_m6 138 rfl) rfl
theorem q1421 : (Jvm.Cond.code ({ cls := "RoarMillModel", name := "needWord", desc := "(Ljava/lang/String;)V" } : Jvm.MethodName) prog_14_method_17_code (2 : Nat) (Option.none : Option Jvm.ClassFile.FieldType)) ∈ lw_all := lw_g (lw_at lw_m6 139 rfl) rfl
theorem q1422 : (Jvm.Cond.methodLink "RoarMillModel" (227 : Nat) ({ cls := "RoarMillModel", name := "readWhole", desc := "(II)I" } : Jvm.MethodName)) ∈ lw_all := lw_g (lw_at lw_m6 140 rfl) rfl
theorem q1423 : (Jvm.Cond.privateMethod ({ cls := "RoarMillModel", name := "readWhole", desc := "(II)I" } : Jvm.MethodName)) ∈ lw_tbl := lw_at lw_m6 141 rfl
theorem q1424 : (Jvm.Cond.instanceMethod ({ cls := "RoarMillModel", name := "readWhole", desc := "(II)I" } : Jvm.MethodName)) ∈ lw_all := lw_g (lw_at lw_m6 142 rfl) rfl
theorem q1425 : (Jvm.Cond.code ({ cls := "RoarMillModel", name := "readWhole", desc := "(II)I" } : Jvm.MethodName) prog_14_method_18_code (4 : Nat) (Option.some Jvm.ClassFile.FieldType.int)) ∈ lw_all := lw_g (lw_at lw_m6 143 rfl) rfl
theorem q1426 : (Jvm.Cond.methodLink "RoarMillModel" (149 : Nat) ({ cls := "RoarMillModel", name := "in", desc := "(III)Z" } : Jvm.MethodName)) ∈ lw_all := lw_g (lw_at lw_m6 144 rfl) rfl
theorem q1427 : (Jvm.Cond.static ({ cls := "RoarMillModel", name := "in", desc := "(III)Z" } : Jvm.MethodName)) ∈ lw_all := lw_g (lw_at lw_m6 145 rfl) rfl
theorem q1428 : (Jvm.Cond.code ({ cls := "RoarMillModel", name := "in", desc := "(III)Z" } : Jvm.MethodName) prog_14_method_7_code (3 : Nat) (Option.some Jvm.ClassFile.FieldType.boolean)) ∈ lw_all := lw_g (lw_at lw_m6 146 rfl) rfl
theorem q1429 : (Jvm.Cond.stringRef "RoarMillModel" (231 : Nat) "loud") ∈ lw_tbl := lw_at lw_m6 147 rfl
theorem q1430 : (Jvm.Cond.stringRef "RoarMillModel" (155 : Nat) "sieve") ∈ lw_tbl := lw_at lw_m6 148 rfl
theorem q1431 : (Jvm.Cond.methodLink "RoarMillModel" (200 : Nat) ({ cls := "RoarMillModel", name := "readSieve", desc := "()V" } : Jvm.MethodName)) ∈ lw_all := lw_g (lw_at lw_m6 149 rfl) rfl
theorem q1432 : (Jvm.Cond.privateMethod ({ cls := "RoarMillModel", name := "readSieve", desc := "()V" } : Jvm.MethodName)) ∈ lw_tbl := lw_at lw_m6 150 rfl
theorem q1433 : (Jvm.Cond.instanceMethod ({ cls := "RoarMillModel", name := "readSieve", desc := "()V" } : Jvm.MethodName)) ∈ lw_all := lw_g (lw_at lw_m6 151 rfl) rfl
theorem q1434 : (Jvm.Cond.code ({ cls := "RoarMillModel", name := "readSieve", desc := "()V" } : Jvm.MethodName) prog_14_method_24_code (2 : Nat) (Option.none : Option Jvm.ClassFile.FieldType)) ∈ lw_all := lw_g (lw_at lw_m6 152 rfl) rfl
theorem q1435 : (Jvm.Cond.methodLink "RoarMillModel" (235 : Nat) ({ cls := "RoarMillModel", name := "isName", desc := "()Z" } : Jvm.MethodName)) ∈ lw_all := lw_g (lw_at lw_m6 153 rfl) rfl
theorem q1436 : (Jvm.Cond.privateMethod ({ cls := "RoarMillModel", name := "isName", desc := "()Z" } : Jvm.MethodName)) ∈ lw_tbl := lw_at lw_m6 154 rfl
theorem q1437 : (Jvm.Cond.instanceMethod ({ cls := "RoarMillModel", name := "isName", desc := "()Z" } : Jvm.MethodName)) ∈ lw_all := lw_g (lw_at lw_m6 155 rfl) rfl
theorem q1438 : (Jvm.Cond.code ({ cls := "RoarMillModel", name := "isName", desc := "()Z" } : Jvm.MethodName) prog_14_method_19_code (1 : Nat) (Option.some Jvm.ClassFile.FieldType.boolean)) ∈ lw_all := lw_g (lw_at lw_m6 156 rfl) rfl
theorem q1439 : (Jvm.Cond.stringRef "RoarMillModel" (157 : Nat) "liner") ∈ lw_tbl := lw_at lw_m6 157 rfl
theorem q1440 : (Jvm.Cond.stringRef "RoarMillModel" (159 : Nat) "bin") ∈ lw_tbl := lw_at lw_m6 158 rfl
theorem q1441 : (Jvm.Cond.stringRef "RoarMillModel" (161 : Nat) "price") ∈ lw_tbl := lw_at lw_m6 159 rfl
theorem q1442 : (Jvm.Cond.stringRef "RoarMillModel" (163 : Nat) "size") ∈ lw_tbl := lw_at lw_m6 160 rfl
theorem q1443 : (Jvm.Cond.stringRef "RoarMillModel" (164 : Nat) "ore") ∈ lw_tbl := lw_at lw_m6 161 rfl
theorem q1444 : (Jvm.Cond.methodLink "RoarMillModel" (239 : Nat) ({ cls := "RoarMillModel$Mill", name := "find", desc := "(J)I" } : Jvm.MethodName)) ∈ lw_all := lw_g (lw_at lw_m6 162 rfl) rfl
theorem q1448 : (Jvm.Cond.stringRef "RoarMillModel" (246 : Nat) "slips") ∈ lw_tbl := lw_at lw_m6 166 rfl
theorem q1449 : (Jvm.Cond.methodLink "RoarMillModel" (203 : Nat) ({ cls := "RoarMillModel", name := "readLiner", desc := "()V" } : Jvm.MethodName)) ∈ lw_all := lw_g (lw_at lw_m6 167 rfl) rfl
theorem q1450 : (Jvm.Cond.privateMethod ({ cls := "RoarMillModel", name := "readLiner", desc := "()V" } : Jvm.MethodName)) ∈ lw_tbl := lw_at lw_m6 168 rfl
theorem q1451 : (Jvm.Cond.instanceMethod ({ cls := "RoarMillModel", name := "readLiner", desc := "()V" } : Jvm.MethodName)) ∈ lw_all := lw_g (lw_at lw_m6 169 rfl) rfl
theorem q1452 : (Jvm.Cond.code ({ cls := "RoarMillModel", name := "readLiner", desc := "()V" } : Jvm.MethodName) prog_14_method_25_code (1 : Nat) (Option.none : Option Jvm.ClassFile.FieldType)) ∈ lw_all := lw_g (lw_at lw_m6 170 rfl) rfl
theorem q1453 : (Jvm.Cond.methodLink "RoarMillModel" (206 : Nat) ({ cls := "RoarMillModel", name := "readBin", desc := "()V" } : Jvm.MethodName)) ∈ lw_all := lw_g (lw_at lw_m6 171 rfl) rfl
theorem q1454 : (Jvm.Cond.privateMethod ({ cls := "RoarMillModel", name := "readBin", desc := "()V" } : Jvm.MethodName)) ∈ lw_tbl := lw_at lw_m6 172 rfl
theorem q1455 : (Jvm.Cond.instanceMethod ({ cls := "RoarMillModel", name := "readBin", desc := "()V" } : Jvm.MethodName)) ∈ lw_all := lw_g (lw_at lw_m6 173 rfl) rfl
theorem q1456 : (Jvm.Cond.code ({ cls := "RoarMillModel", name := "readBin", desc := "()V" } : Jvm.MethodName) prog_14_method_26_code (1 : Nat) (Option.none : Option Jvm.ClassFile.FieldType)) ∈ lw_all := lw_g (lw_at lw_m6 174 rfl) rfl
theorem q1457 : (Jvm.Cond.stringRef "RoarMillModel" (250 : Nat) "draws") ∈ lw_tbl := lw_at lw_m6 175 rfl
theorem q1458 : (Jvm.Cond.methodLink "RoarMillModel" (209 : Nat) ({ cls := "RoarMillModel", name := "readPrices", desc := "()V" } : Jvm.MethodName)) ∈ lw_all := lw_g (lw_at lw_m6 176 rfl) rfl
theorem q1459 : (Jvm.Cond.privateMethod ({ cls := "RoarMillModel", name := "readPrices", desc := "()V" } : Jvm.MethodName)) ∈ lw_tbl := lw_at lw_m6 177 rfl
theorem q1460 : (Jvm.Cond.instanceMethod ({ cls := "RoarMillModel", name := "readPrices", desc := "()V" } : Jvm.MethodName)) ∈ lw_all := lw_g (lw_at lw_m6 178 rfl) rfl
theorem q1461 : (Jvm.Cond.code ({ cls := "RoarMillModel", name := "readPrices", desc := "()V" } : Jvm.MethodName) prog_14_method_27_code (4 : Nat) (Option.none : Option Jvm.ClassFile.FieldType)) ∈ lw_all := lw_g (lw_at lw_m6 179 rfl) rfl
theorem q1462 : (Jvm.Cond.methodLink "RoarMillModel" (169 : Nat) ({ cls := "RoarMillModel", name := "is", desc := "(I)Z" } : Jvm.MethodName)) ∈ lw_all := lw_g (lw_at lw_m6 180 rfl) rfl
theorem q1463 : (Jvm.Cond.privateMethod ({ cls := "RoarMillModel", name := "is", desc := "(I)Z" } : Jvm.MethodName)) ∈ lw_tbl := lw_at lw_m6 181 rfl
theorem q1464 : (Jvm.Cond.instanceMethod ({ cls := "RoarMillModel", name := "is", desc := "(I)Z" } : Jvm.MethodName)) ∈ lw_all := lw_g (lw_at lw_m6 182 rfl) rfl
theorem q1465 : (Jvm.Cond.code ({ cls := "RoarMillModel", name := "is", desc := "(I)Z" } : Jvm.MethodName) prog_14_method_16_code (2 : Nat) (Option.some Jvm.ClassFile.FieldType.boolean)) ∈ lw_all := lw_g (lw_at lw_m6 183 rfl) rfl
theorem q1466 : (Jvm.Cond.methodLink "RoarMillModel" (212 : Nat) ({ cls := "RoarMillModel", name := "readSize", desc := "()V" } : Jvm.MethodName)) ∈ lw_all := lw_g (lw_at lw_m6 184 rfl) rfl
theorem q1467 : (Jvm.Cond.privateMethod ({ cls := "RoarMillModel", name := "readSize", desc := "()V" } : Jvm.MethodName)) ∈ lw_tbl := lw_at lw_m6 185 rfl
theorem q1468 : (Jvm.Cond.instanceMethod ({ cls := "RoarMillModel", name := "readSize", desc := "()V" } : Jvm.MethodName)) ∈ lw_all := lw_g (lw_at lw_m6 186 rfl) rfl
theorem q1469 : (Jvm.Cond.code ({ cls := "RoarMillModel", name := "readSize", desc := "()V" } : Jvm.MethodName) prog_14_method_29_code (1 : Nat) (Option.none : Option Jvm.ClassFile.FieldType)) ∈ lw_all := lw_g (lw_at lw_m6 187 rfl) rfl
theorem q1470 : (Jvm.Cond.methodLink "RoarMillModel" (262 : Nat) ({ cls := "RoarMillModel", name := "readFresh", desc := "(I)V" } : Jvm.MethodName)) ∈ lw_all := lw_g (lw_at lw_m6 188 rfl) rfl
theorem q1471 : (Jvm.Cond.privateMethod ({ cls := "RoarMillModel", name := "readFresh", desc := "(I)V" } : Jvm.MethodName)) ∈ lw_tbl := lw_at lw_m6 189 rfl
theorem q1472 : (Jvm.Cond.instanceMethod ({ cls := "RoarMillModel", name := "readFresh", desc := "(I)V" } : Jvm.MethodName)) ∈ lw_all := lw_g (lw_at lw_m6 190 rfl) rfl
theorem q1473 : (Jvm.Cond.code ({ cls := "RoarMillModel", name := "readFresh", desc := "(I)V" } : Jvm.MethodName) prog_14_method_28_code (2 : Nat) (Option.none : Option Jvm.ClassFile.FieldType)) ∈ lw_all := lw_g (lw_at lw_m6 191 rfl) rfl
theorem q1474 : (Jvm.Cond.stringRef "RoarMillModel" (265 : Nat) "breaks") ∈ lw_tbl := lw_at lw_m6 192 rfl
theorem q1475 : (Jvm.Cond.stringRef "RoarMillModel" (269 : Nat) "next") ∈ lw_tbl := lw_at lw_m6 193 rfl
theorem q1476 : (Jvm.Cond.methodLink "RoarMillModel" (215 : Nat) ({ cls := "RoarMillModel", name := "readOre", desc := "()V" } : Jvm.MethodName)) ∈ lw_all := lw_g (lw_at lw_m6 194 rfl) rfl
theorem q1477 : (Jvm.Cond.privateMethod ({ cls := "RoarMillModel", name := "readOre", desc := "()V" } : Jvm.MethodName)) ∈ lw_tbl := lw_at lw_m6 195 rfl
theorem q1478 : (Jvm.Cond.instanceMethod ({ cls := "RoarMillModel", name := "readOre", desc := "()V" } : Jvm.MethodName)) ∈ lw_all := lw_g (lw_at lw_m6 196 rfl) rfl
theorem q1479 : (Jvm.Cond.code ({ cls := "RoarMillModel", name := "readOre", desc := "()V" } : Jvm.MethodName) prog_14_method_30_code (6 : Nat) (Option.none : Option Jvm.ClassFile.FieldType)) ∈ lw_all := lw_g (lw_at lw_m6 197 rfl) rfl
theorem q1480 : (Jvm.Cond.stringRef "RoarMillModel" (272 : Nat) "hard") ∈ lw_tbl := lw_at lw_m6 198 rfl
theorem q1481 : (Jvm.Cond.stringRef "RoarMillModel" (274 : Nat) "tons") ∈ lw_tbl := lw_at lw_m6 199 rfl
theorem q1482 : (Jvm.Cond.methodLink "RoarMillModel" (302 : Nat) ({ cls := "RoarMillModel", name := "done", desc := "(I)I" } : Jvm.MethodName)) ∈ lw_all := lw_g (lw_at lw_m6 200 rfl) rfl
theorem q1483 : (Jvm.Cond.privateMethod ({ cls := "RoarMillModel", name := "done", desc := "(I)I" } : Jvm.MethodName)) ∈ lw_tbl := lw_at lw_m6 201 rfl
theorem q1484 : (Jvm.Cond.instanceMethod ({ cls := "RoarMillModel", name := "done", desc := "(I)I" } : Jvm.MethodName)) ∈ lw_all := lw_g (lw_at lw_m6 202 rfl) rfl
theorem q1485 : (Jvm.Cond.code ({ cls := "RoarMillModel", name := "done", desc := "(I)I" } : Jvm.MethodName) prog_14_method_5_code (2 : Nat) (Option.some Jvm.ClassFile.FieldType.int)) ∈ lw_all := lw_g (lw_at lw_m6 203 rfl) rfl
theorem q1487 : (Jvm.Cond.instanceMethod ({ cls := "RoarMillModel", name := "fault", desc := "()I" } : Jvm.MethodName)) ∈ lw_all := lw_g (lw_at lw_m6 205 rfl) rfl
theorem q1488 : (Jvm.Cond.selects "RoarMillModel" ({ cls := "RoarMillModel", name := "fault", desc := "()I" } : Jvm.MethodName) ({ cls := "RoarMillModel", name := "fault", desc := "()I" } : Jvm.MethodName)) ∈ lw_all := lw_g (lw_at lw_m6 206 rfl) rfl
theorem q1489 : (Jvm.Cond.code ({ cls := "RoarMillModel", name := "fault", desc := "()I" } : Jvm.MethodName) prog_14_method_33_code (1 : Nat) (Option.some Jvm.ClassFile.FieldType.int)) ∈ lw_all := lw_g (lw_at lw_m6 207 rfl) rfl
theorem q1491 : (Jvm.Cond.instanceMethod ({ cls := "RoarMillModel", name := "where", desc := "()I" } : Jvm.MethodName)) ∈ lw_all := lw_g (lw_at lw_m6 209 rfl) rfl
theorem q1492 : (Jvm.Cond.selects "RoarMillModel" ({ cls := "RoarMillModel", name := "where", desc := "()I" } : Jvm.MethodName) ({ cls := "RoarMillModel", name := "where", desc := "()I" } : Jvm.MethodName)) ∈ lw_all := lw_g (lw_at lw_m6 210 rfl) rfl
theorem q1493 : (Jvm.Cond.code ({ cls := "RoarMillModel", name := "where", desc := "()I" } : Jvm.MethodName) prog_14_method_34_code (1 : Nat) (Option.some Jvm.ClassFile.FieldType.int)) ∈ lw_all := lw_g (lw_at lw_m6 211 rfl) rfl
theorem q1495 : (Jvm.Cond.instanceMethod ({ cls := "RoarMillModel", name := "set", desc := "(III)Z" } : Jvm.MethodName)) ∈ lw_all := lw_g (lw_at lw_m6 213 rfl) rfl
theorem q1496 : (Jvm.Cond.selects "RoarMillModel" ({ cls := "RoarMillModel", name := "set", desc := "(III)Z" } : Jvm.MethodName) ({ cls := "RoarMillModel", name := "set", desc := "(III)Z" } : Jvm.MethodName)) ∈ lw_all := lw_g (lw_at lw_m6 214 rfl) rfl
theorem q1497 : (Jvm.Cond.code ({ cls := "RoarMillModel", name := "set", desc := "(III)Z" } : Jvm.MethodName) prog_14_method_42_code (4 : Nat) (Option.some Jvm.ClassFile.FieldType.boolean)) ∈ lw_all := lw_g (lw_at lw_m6 215 rfl) rfl
theorem q1498 : (Jvm.Cond.methodLink "RoarMillModel" (323 : Nat) ({ cls := "RoarMillModel", name := "isOre", desc := "(I)Z" } : Jvm.MethodName)) ∈ lw_all := lw_g (lw_at lw_m6 216 rfl) rfl
theorem q1499 : (Jvm.Cond.privateMethod ({ cls := "RoarMillModel", name := "isOre", desc := "(I)Z" } : Jvm.MethodName)) ∈ lw_tbl := lw_at lw_m6 217 rfl
theorem q1500 : (Jvm.Cond.instanceMethod ({ cls := "RoarMillModel", name := "isOre", desc := "(I)Z" } : Jvm.MethodName)) ∈ lw_all := lw_g (lw_at lw_m6 218 rfl) rfl
theorem q1501 : (Jvm.Cond.code ({ cls := "RoarMillModel", name := "isOre", desc := "(I)Z" } : Jvm.MethodName) prog_14_method_41_code (2 : Nat) (Option.some Jvm.ClassFile.FieldType.boolean)) ∈ lw_all := lw_g (lw_at lw_m6 219 rfl) rfl
theorem q1502 : (Jvm.Cond.methodLink "RoarMillModel" (326 : Nat) ({ cls := "RoarMillModel", name := "denied", desc := "(I)Z" } : Jvm.MethodName)) ∈ lw_all := lw_g (lw_at lw_m6 220 rfl) rfl
theorem q1503 : (Jvm.Cond.privateMethod ({ cls := "RoarMillModel", name := "denied", desc := "(I)Z" } : Jvm.MethodName)) ∈ lw_tbl := lw_at lw_m6 221 rfl
theorem q1504 : (Jvm.Cond.instanceMethod ({ cls := "RoarMillModel", name := "denied", desc := "(I)Z" } : Jvm.MethodName)) ∈ lw_all := lw_g (lw_at lw_m6 222 rfl) rfl
theorem q1505 : (Jvm.Cond.code ({ cls := "RoarMillModel", name := "denied", desc := "(I)Z" } : Jvm.MethodName) prog_14_method_4_code (2 : Nat) (Option.some Jvm.ClassFile.FieldType.boolean)) ∈ lw_all := lw_g (lw_at lw_m6 223 rfl) rfl
theorem q1506 : (Jvm.Cond.methodLink "RoarMillModel" (329 : Nat) ({ cls := "RoarMillModel", name := "granted", desc := "()Z" } : Jvm.MethodName)) ∈ lw_all := lw_g (lw_at lw_m6 224 rfl) rfl
theorem q1507 : (Jvm.Cond.privateMethod ({ cls := "RoarMillModel", name := "granted", desc := "()Z" } : Jvm.MethodName)) ∈ lw_tbl := lw_at lw_m6 225 rfl
theorem q1508 : (Jvm.Cond.instanceMethod ({ cls := "RoarMillModel", name := "granted", desc := "()Z" } : Jvm.MethodName)) ∈ lw_all := lw_g (lw_at lw_m6 226 rfl) rfl
theorem q1509 : (Jvm.Cond.code ({ cls := "RoarMillModel", name := "granted", desc := "()Z" } : Jvm.MethodName) prog_14_method_6_code (1 : Nat) (Option.some Jvm.ClassFile.FieldType.boolean)) ∈ lw_all := lw_g (lw_at lw_m6 227 rfl) rfl
theorem q1511 : (Jvm.Cond.instanceMethod ({ cls := "RoarMillModel", name := "mend", desc := "(IZ)Z" } : Jvm.MethodName)) ∈ lw_all := lw_g (lw_at lw_m6 229 rfl) rfl
theorem q1512 : (Jvm.Cond.selects "RoarMillModel" ({ cls := "RoarMillModel", name := "mend", desc := "(IZ)Z" } : Jvm.MethodName) ({ cls := "RoarMillModel", name := "mend", desc := "(IZ)Z" } : Jvm.MethodName)) ∈ lw_all := lw_g (lw_at lw_m6 230 rfl) rfl
theorem q1513 : (Jvm.Cond.code ({ cls := "RoarMillModel", name := "mend", desc := "(IZ)Z" } : Jvm.MethodName) prog_14_method_43_code (3 : Nat) (Option.some Jvm.ClassFile.FieldType.boolean)) ∈ lw_all := lw_g (lw_at lw_m6 231 rfl) rfl
theorem q1515 : (Jvm.Cond.instanceMethod ({ cls := "RoarMillModel", name := "go", desc := "(I)I" } : Jvm.MethodName)) ∈ lw_all := lw_g (lw_at lw_m6 233 rfl) rfl
theorem q1516 : (Jvm.Cond.selects "RoarMillModel" ({ cls := "RoarMillModel", name := "go", desc := "(I)I" } : Jvm.MethodName) ({ cls := "RoarMillModel", name := "go", desc := "(I)I" } : Jvm.MethodName)) ∈ lw_all := lw_g (lw_at lw_m6 234 rfl) rfl
theorem q1517 : (Jvm.Cond.code ({ cls := "RoarMillModel", name := "go", desc := "(I)I" } : Jvm.MethodName) prog_14_method_44_code (4 : Nat) (Option.some Jvm.ClassFile.FieldType.int)) ∈ lw_all := lw_g (lw_at lw_m6 235 rfl) rfl
theorem q1518 : (Jvm.Cond.methodLink "RoarMillModel" (332 : Nat) ({ cls := "RoarMillModel", name := "goes", desc := "([I)V" } : Jvm.MethodName)) ∈ lw_all := lw_g (lw_at lw_m6 236 rfl) rfl
theorem q1519 : (Jvm.Cond.privateMethod ({ cls := "RoarMillModel", name := "goes", desc := "([I)V" } : Jvm.MethodName)) ∈ lw_tbl := lw_at lw_m6 237 rfl
theorem q1520 : (Jvm.Cond.instanceMethod ({ cls := "RoarMillModel", name := "goes", desc := "([I)V" } : Jvm.MethodName)) ∈ lw_all := lw_g (lw_at lw_m6 238 rfl) rfl
theorem q1521 : (Jvm.Cond.code ({ cls := "RoarMillModel", name := "goes", desc := "([I)V" } : Jvm.MethodName) prog_14_method_36_code (5 : Nat) (Option.none : Option Jvm.ClassFile.FieldType)) ∈ lw_all := lw_g (lw_at lw_m6 239 rfl) rfl
theorem q1522 : (Jvm.Cond.methodLink "RoarMillModel" (305 : Nat) ({ cls := "RoarMillModel", name := "sumOf", desc := "([II)I" } : Jvm.MethodName)) ∈ lw_all := lw_g (lw_at lw_m7 0 rfl) rfl
theorem q1523 : (Jvm.Cond.privateMethod ({ cls := "RoarMillModel", name := "sumOf", desc := "([II)I" } : Jvm.MethodName)) ∈ lw_tbl := lw_at lw_m7 1 rfl
theorem q1524 : (Jvm.Cond.instanceMethod ({ cls := "RoarMillModel", name := "sumOf", desc := "([II)I" } : Jvm.MethodName)) ∈ lw_all := lw_g (lw_at lw_m7 2 rfl) rfl
theorem q1525 : (Jvm.Cond.code ({ cls := "RoarMillModel", name := "sumOf", desc := "([II)I" } : Jvm.MethodName) prog_14_method_35_code (5 : Nat) (Option.some Jvm.ClassFile.FieldType.int)) ∈ lw_all := lw_g (lw_at lw_m7 3 rfl) rfl
theorem q1526 : (Jvm.Cond.methodLink "RoarMillModel" (309 : Nat) ({ cls := "RoarMillModel", name := "grinds", desc := "([I)V" } : Jvm.MethodName)) ∈ lw_all := lw_g (lw_at lw_m7 4 rfl) rfl
theorem q1527 : (Jvm.Cond.privateMethod ({ cls := "RoarMillModel", name := "grinds", desc := "([I)V" } : Jvm.MethodName)) ∈ lw_tbl := lw_at lw_m7 5 rfl
theorem q1528 : (Jvm.Cond.instanceMethod ({ cls := "RoarMillModel", name := "grinds", desc := "([I)V" } : Jvm.MethodName)) ∈ lw_all := lw_g (lw_at lw_m7 6 rfl) rfl
theorem q1529 : (Jvm.Cond.code ({ cls := "RoarMillModel", name := "grinds", desc := "([I)V" } : Jvm.MethodName) prog_14_method_40_code (5 : Nat) (Option.none : Option Jvm.ClassFile.FieldType)) ∈ lw_all := lw_g (lw_at lw_m7 7 rfl) rfl
theorem q1530 : (Jvm.Cond.methodLink "RoarMillModel" (316 : Nat) ({ cls := "RoarMillModel", name := "effectOf", desc := "(III)I" } : Jvm.MethodName)) ∈ lw_all := lw_g (lw_at lw_m7 8 rfl) rfl
theorem q1531 : (Jvm.Cond.privateMethod ({ cls := "RoarMillModel", name := "effectOf", desc := "(III)I" } : Jvm.MethodName)) ∈ lw_tbl := lw_at lw_m7 9 rfl
theorem q1532 : (Jvm.Cond.instanceMethod ({ cls := "RoarMillModel", name := "effectOf", desc := "(III)I" } : Jvm.MethodName)) ∈ lw_all := lw_g (lw_at lw_m7 10 rfl) rfl
theorem q1533 : (Jvm.Cond.code ({ cls := "RoarMillModel", name := "effectOf", desc := "(III)I" } : Jvm.MethodName) prog_14_method_38_code (8 : Nat) (Option.some Jvm.ClassFile.FieldType.int)) ∈ lw_all := lw_g (lw_at lw_m7 11 rfl) rfl
theorem q1534 : (Jvm.Cond.methodLink "RoarMillModel" (320 : Nat) ({ cls := "RoarMillModel", name := "passes", desc := "(II)I" } : Jvm.MethodName)) ∈ lw_all := lw_g (lw_at lw_m7 12 rfl) rfl
theorem q1535 : (Jvm.Cond.privateMethod ({ cls := "RoarMillModel", name := "passes", desc := "(II)I" } : Jvm.MethodName)) ∈ lw_tbl := lw_at lw_m7 13 rfl
theorem q1536 : (Jvm.Cond.instanceMethod ({ cls := "RoarMillModel", name := "passes", desc := "(II)I" } : Jvm.MethodName)) ∈ lw_all := lw_g (lw_at lw_m7 14 rfl) rfl
theorem q1537 : (Jvm.Cond.code ({ cls := "RoarMillModel", name := "passes", desc := "(II)I" } : Jvm.MethodName) prog_14_method_39_code (3 : Nat) (Option.some Jvm.ClassFile.FieldType.int)) ∈ lw_all := lw_g (lw_at lw_m7 15 rfl) rfl
theorem q1538 : (Jvm.Cond.methodLink "RoarMillModel" (313 : Nat) ({ cls := "RoarMillModel", name := "digs", desc := "([I)V" } : Jvm.MethodName)) ∈ lw_all := lw_g (lw_at lw_m7 16 rfl) rfl
theorem q1539 : (Jvm.Cond.privateMethod ({ cls := "RoarMillModel", name := "digs", desc := "([I)V" } : Jvm.MethodName)) ∈ lw_tbl := lw_at lw_m7 17 rfl
theorem q1540 : (Jvm.Cond.instanceMethod ({ cls := "RoarMillModel", name := "digs", desc := "([I)V" } : Jvm.MethodName)) ∈ lw_all := lw_g (lw_at lw_m7 18 rfl) rfl
theorem q1541 : (Jvm.Cond.code ({ cls := "RoarMillModel", name := "digs", desc := "([I)V" } : Jvm.MethodName) prog_14_method_37_code (4 : Nat) (Option.none : Option Jvm.ClassFile.FieldType)) ∈ lw_all := lw_g (lw_at lw_m7 19 rfl) rfl
theorem q1543 : (Jvm.Cond.instanceMethod ({ cls := "RoarMillModel", name := "tons", desc := "(II)I" } : Jvm.MethodName)) ∈ lw_all := lw_g (lw_at lw_m7 21 rfl) rfl
theorem q1544 : (Jvm.Cond.selects "RoarMillModel" ({ cls := "RoarMillModel", name := "tons", desc := "(II)I" } : Jvm.MethodName) ({ cls := "RoarMillModel", name := "tons", desc := "(II)I" } : Jvm.MethodName)) ∈ lw_all := lw_g (lw_at lw_m7 22 rfl) rfl
theorem q1545 : (Jvm.Cond.code ({ cls := "RoarMillModel", name := "tons", desc := "(II)I" } : Jvm.MethodName) prog_14_method_46_code (3 : Nat) (Option.some Jvm.ClassFile.FieldType.int)) ∈ lw_all := lw_g (lw_at lw_m7 23 rfl) rfl
theorem q1546 : (Jvm.Cond.methodLink "RoarMillModel" (335 : Nat) ({ cls := "RoarMillModel", name := "isSize", desc := "(I)Z" } : Jvm.MethodName)) ∈ lw_all := lw_g (lw_at lw_m7 24 rfl) rfl
theorem q1547 : (Jvm.Cond.privateMethod ({ cls := "RoarMillModel", name := "isSize", desc := "(I)Z" } : Jvm.MethodName)) ∈ lw_tbl := lw_at lw_m7 25 rfl
theorem q1548 : (Jvm.Cond.instanceMethod ({ cls := "RoarMillModel", name := "isSize", desc := "(I)Z" } : Jvm.MethodName)) ∈ lw_all := lw_g (lw_at lw_m7 26 rfl) rfl
theorem q1549 : (Jvm.Cond.code ({ cls := "RoarMillModel", name := "isSize", desc := "(I)Z" } : Jvm.MethodName) prog_14_method_45_code (2 : Nat) (Option.some Jvm.ClassFile.FieldType.boolean)) ∈ lw_all := lw_g (lw_at lw_m7 27 rfl) rfl
theorem q1551 : (Jvm.Cond.instanceMethod ({ cls := "RoarMillModel", name := "state", desc := "(I)I" } : Jvm.MethodName)) ∈ lw_all := lw_g (lw_at lw_m7 29 rfl) rfl
theorem q1552 : (Jvm.Cond.selects "RoarMillModel" ({ cls := "RoarMillModel", name := "state", desc := "(I)I" } : Jvm.MethodName) ({ cls := "RoarMillModel", name := "state", desc := "(I)I" } : Jvm.MethodName)) ∈ lw_all := lw_g (lw_at lw_m7 30 rfl) rfl
theorem q1553 : (Jvm.Cond.code ({ cls := "RoarMillModel", name := "state", desc := "(I)I" } : Jvm.MethodName) prog_14_method_47_code (2 : Nat) (Option.some Jvm.ClassFile.FieldType.int)) ∈ lw_all := lw_g (lw_at lw_m7 31 rfl) rfl
theorem q1555 : (Jvm.Cond.instanceMethod ({ cls := "RoarMillModel", name := "program", desc := "(IIII)Z" } : Jvm.MethodName)) ∈ lw_all := lw_g (lw_at lw_m7 33 rfl) rfl
theorem q1556 : (Jvm.Cond.selects "RoarMillModel" ({ cls := "RoarMillModel", name := "program", desc := "(IIII)Z" } : Jvm.MethodName) ({ cls := "RoarMillModel", name := "program", desc := "(IIII)Z" } : Jvm.MethodName)) ∈ lw_all := lw_g (lw_at lw_m7 34 rfl) rfl
theorem q1557 : (Jvm.Cond.code ({ cls := "RoarMillModel", name := "program", desc := "(IIII)Z" } : Jvm.MethodName) prog_14_method_48_code (5 : Nat) (Option.some Jvm.ClassFile.FieldType.boolean)) ∈ lw_all := lw_g (lw_at lw_m7 35 rfl) rfl
theorem q1559 : (Jvm.Cond.instanceMethod ({ cls := "RoarMillModel", name := "seen", desc := "(IIII)I" } : Jvm.MethodName)) ∈ lw_all := lw_g (lw_at lw_m7 37 rfl) rfl
theorem q1560 : (Jvm.Cond.selects "RoarMillModel" ({ cls := "RoarMillModel", name := "seen", desc := "(IIII)I" } : Jvm.MethodName) ({ cls := "RoarMillModel", name := "seen", desc := "(IIII)I" } : Jvm.MethodName)) ∈ lw_all := lw_g (lw_at lw_m7 38 rfl) rfl
theorem q1561 : (Jvm.Cond.code ({ cls := "RoarMillModel", name := "seen", desc := "(IIII)I" } : Jvm.MethodName) prog_14_method_50_code (5 : Nat) (Option.some Jvm.ClassFile.FieldType.int)) ∈ lw_all := lw_g (lw_at lw_m7 39 rfl) rfl
theorem q1562 : (Jvm.Cond.methodLink "RoarMillModel" (338 : Nat) ({ cls := "RoarMillModel", name := "isWhat", desc := "(II)Z" } : Jvm.MethodName)) ∈ lw_all := lw_g (lw_at lw_m7 40 rfl) rfl
theorem q1563 : (Jvm.Cond.privateMethod ({ cls := "RoarMillModel", name := "isWhat", desc := "(II)Z" } : Jvm.MethodName)) ∈ lw_tbl := lw_at lw_m7 41 rfl
theorem q1564 : (Jvm.Cond.instanceMethod ({ cls := "RoarMillModel", name := "isWhat", desc := "(II)Z" } : Jvm.MethodName)) ∈ lw_all := lw_g (lw_at lw_m7 42 rfl) rfl
theorem q1565 : (Jvm.Cond.code ({ cls := "RoarMillModel", name := "isWhat", desc := "(II)Z" } : Jvm.MethodName) prog_14_method_49_code (3 : Nat) (Option.some Jvm.ClassFile.FieldType.boolean)) ∈ lw_all := lw_g (lw_at lw_m7 43 rfl) rfl
theorem q1566 : (Jvm.Cond.constant "RoarMillModel" (342 : Nat) (999999 : Int32)) ∈ lw_all := lw_g (lw_at lw_m7 44 rfl) rfl
theorem q1568 : (Jvm.Cond.instanceMethod ({ cls := "RoarMillModel", name := "forget", desc := "()I" } : Jvm.MethodName)) ∈ lw_all := lw_g (lw_at lw_m7 46 rfl) rfl
theorem q1569 : (Jvm.Cond.selects "RoarMillModel" ({ cls := "RoarMillModel", name := "forget", desc := "()I" } : Jvm.MethodName) ({ cls := "RoarMillModel", name := "forget", desc := "()I" } : Jvm.MethodName)) ∈ lw_all := lw_g (lw_at lw_m7 47 rfl) rfl
theorem q1570 : (Jvm.Cond.code ({ cls := "RoarMillModel", name := "forget", desc := "()I" } : Jvm.MethodName) prog_14_method_51_code (2 : Nat) (Option.some Jvm.ClassFile.FieldType.int)) ∈ lw_all := lw_g (lw_at lw_m7 48 rfl) rfl
theorem q1572 : (Jvm.Cond.instanceMethod ({ cls := "RoarMillModel", name := "fits", desc := "()I" } : Jvm.MethodName)) ∈ lw_all := lw_g (lw_at lw_m7 50 rfl) rfl
theorem q1573 : (Jvm.Cond.selects "RoarMillModel" ({ cls := "RoarMillModel", name := "fits", desc := "()I" } : Jvm.MethodName) ({ cls := "RoarMillModel", name := "fits", desc := "()I" } : Jvm.MethodName)) ∈ lw_all := lw_g (lw_at lw_m7 51 rfl) rfl
theorem q1574 : (Jvm.Cond.code ({ cls := "RoarMillModel", name := "fits", desc := "()I" } : Jvm.MethodName) prog_14_method_59_code (1 : Nat) (Option.some Jvm.ClassFile.FieldType.int)) ∈ lw_all := lw_g (lw_at lw_m7 52 rfl) rfl
theorem q1575 : (Jvm.Cond.methodLink "RoarMillModel" (360 : Nat) ({ cls := "RoarMillModel", name := "allFits", desc := "(II)I" } : Jvm.MethodName)) ∈ lw_all := lw_g (lw_at lw_m7 53 rfl) rfl
theorem q1576 : (Jvm.Cond.privateMethod ({ cls := "RoarMillModel", name := "allFits", desc := "(II)I" } : Jvm.MethodName)) ∈ lw_tbl := lw_at lw_m7 54 rfl
theorem q1577 : (Jvm.Cond.instanceMethod ({ cls := "RoarMillModel", name := "allFits", desc := "(II)I" } : Jvm.MethodName)) ∈ lw_all := lw_g (lw_at lw_m7 55 rfl) rfl
theorem q1578 : (Jvm.Cond.code ({ cls := "RoarMillModel", name := "allFits", desc := "(II)I" } : Jvm.MethodName) prog_14_method_57_code (5 : Nat) (Option.some Jvm.ClassFile.FieldType.int)) ∈ lw_all := lw_g (lw_at lw_m7 56 rfl) rfl
theorem q1579 : (Jvm.Cond.methodLink "RoarMillModel" (357 : Nat) ({ cls := "RoarMillModel", name := "agrees", desc := "(III)Z" } : Jvm.MethodName)) ∈ lw_all := lw_g (lw_at lw_m7 57 rfl) rfl
theorem q1580 : (Jvm.Cond.privateMethod ({ cls := "RoarMillModel", name := "agrees", desc := "(III)Z" } : Jvm.MethodName)) ∈ lw_tbl := lw_at lw_m7 58 rfl
theorem q1581 : (Jvm.Cond.instanceMethod ({ cls := "RoarMillModel", name := "agrees", desc := "(III)Z" } : Jvm.MethodName)) ∈ lw_all := lw_g (lw_at lw_m7 59 rfl) rfl
theorem q1582 : (Jvm.Cond.code ({ cls := "RoarMillModel", name := "agrees", desc := "(III)Z" } : Jvm.MethodName) prog_14_method_56_code (7 : Nat) (Option.some Jvm.ClassFile.FieldType.boolean)) ∈ lw_all := lw_g (lw_at lw_m7 60 rfl) rfl
theorem q1583 : (Jvm.Cond.methodLink "RoarMillModel" (343 : Nat) ({ cls := "RoarMillModel", name := "begins", desc := "([IIII)V" } : Jvm.MethodName)) ∈ lw_all := lw_g (lw_at lw_m7 61 rfl) rfl
theorem q1584 : (Jvm.Cond.privateMethod ({ cls := "RoarMillModel", name := "begins", desc := "([IIII)V" } : Jvm.MethodName)) ∈ lw_tbl := lw_at lw_m7 62 rfl
theorem q1585 : (Jvm.Cond.instanceMethod ({ cls := "RoarMillModel", name := "begins", desc := "([IIII)V" } : Jvm.MethodName)) ∈ lw_all := lw_g (lw_at lw_m7 63 rfl) rfl
theorem q1586 : (Jvm.Cond.code ({ cls := "RoarMillModel", name := "begins", desc := "([IIII)V" } : Jvm.MethodName) prog_14_method_52_code (6 : Nat) (Option.none : Option Jvm.ClassFile.FieldType)) ∈ lw_all := lw_g (lw_at lw_m7 64 rfl) rfl
theorem q1587 : (Jvm.Cond.methodLink "RoarMillModel" (347 : Nat) ({ cls := "RoarMillModel", name := "byProgram", desc := "([II)V" } : Jvm.MethodName)) ∈ lw_all := lw_g (lw_at lw_m7 65 rfl) rfl
theorem q1588 : (Jvm.Cond.privateMethod ({ cls := "RoarMillModel", name := "byProgram", desc := "([II)V" } : Jvm.MethodName)) ∈ lw_tbl := lw_at lw_m7 66 rfl
theorem q1589 : (Jvm.Cond.instanceMethod ({ cls := "RoarMillModel", name := "byProgram", desc := "([II)V" } : Jvm.MethodName)) ∈ lw_all := lw_g (lw_at lw_m7 67 rfl) rfl
theorem q1590 : (Jvm.Cond.code ({ cls := "RoarMillModel", name := "byProgram", desc := "([II)V" } : Jvm.MethodName) prog_14_method_53_code (3 : Nat) (Option.none : Option Jvm.ClassFile.FieldType)) ∈ lw_all := lw_g (lw_at lw_m7 68 rfl) rfl
theorem q1591 : (Jvm.Cond.methodLink "RoarMillModel" (351 : Nat) ({ cls := "RoarMillModel", name := "hourOf", desc := "(III)I" } : Jvm.MethodName)) ∈ lw_all := lw_g (lw_at lw_m7 69 rfl) rfl
theorem q1592 : (Jvm.Cond.privateMethod ({ cls := "RoarMillModel", name := "hourOf", desc := "(III)I" } : Jvm.MethodName)) ∈ lw_tbl := lw_at lw_m7 70 rfl
theorem q1593 : (Jvm.Cond.instanceMethod ({ cls := "RoarMillModel", name := "hourOf", desc := "(III)I" } : Jvm.MethodName)) ∈ lw_all := lw_g (lw_at lw_m7 71 rfl) rfl
theorem q1594 : (Jvm.Cond.code ({ cls := "RoarMillModel", name := "hourOf", desc := "(III)I" } : Jvm.MethodName) prog_14_method_55_code (5 : Nat) (Option.some Jvm.ClassFile.FieldType.int)) ∈ lw_all := lw_g (lw_at lw_m7 72 rfl) rfl
theorem q1595 : (Jvm.Cond.methodLink "RoarMillModel" (354 : Nat) ({ cls := "RoarMillModel", name := "valueOf", desc := "([II)I" } : Jvm.MethodName)) ∈ lw_all := lw_g (lw_at lw_m7 73 rfl) rfl
theorem q1596 : (Jvm.Cond.static ({ cls := "RoarMillModel", name := "valueOf", desc := "([II)I" } : Jvm.MethodName)) ∈ lw_all := lw_g (lw_at lw_m7 74 rfl) rfl
theorem q1597 : (Jvm.Cond.code ({ cls := "RoarMillModel", name := "valueOf", desc := "([II)I" } : Jvm.MethodName) prog_14_method_54_code (2 : Nat) (Option.some Jvm.ClassFile.FieldType.int)) ∈ lw_all := lw_g (lw_at lw_m7 75 rfl) rfl
theorem q1599 : (Jvm.Cond.instanceMethod ({ cls := "RoarMillModel", name := "fitAt", desc := "(II)I" } : Jvm.MethodName)) ∈ lw_all := lw_g (lw_at lw_m7 77 rfl) rfl
theorem q1600 : (Jvm.Cond.selects "RoarMillModel" ({ cls := "RoarMillModel", name := "fitAt", desc := "(II)I" } : Jvm.MethodName) ({ cls := "RoarMillModel", name := "fitAt", desc := "(II)I" } : Jvm.MethodName)) ∈ lw_all := lw_g (lw_at lw_m7 78 rfl) rfl
theorem q1601 : (Jvm.Cond.code ({ cls := "RoarMillModel", name := "fitAt", desc := "(II)I" } : Jvm.MethodName) prog_14_method_60_code (4 : Nat) (Option.some Jvm.ClassFile.FieldType.int)) ∈ lw_all := lw_g (lw_at lw_m7 79 rfl) rfl
theorem q1602 : (Jvm.Cond.methodLink "RoarMillModel" (363 : Nat) ({ cls := "RoarMillModel", name := "partOf", desc := "(II)I" } : Jvm.MethodName)) ∈ lw_all := lw_g (lw_at lw_m7 80 rfl) rfl
theorem q1603 : (Jvm.Cond.static ({ cls := "RoarMillModel", name := "partOf", desc := "(II)I" } : Jvm.MethodName)) ∈ lw_all := lw_g (lw_at lw_m7 81 rfl) rfl
theorem q1604 : (Jvm.Cond.code ({ cls := "RoarMillModel", name := "partOf", desc := "(II)I" } : Jvm.MethodName) prog_14_method_58_code (2 : Nat) (Option.some Jvm.ClassFile.FieldType.int)) ∈ lw_all := lw_g (lw_at lw_m7 82 rfl) rfl
theorem q1606 : (Jvm.Cond.instanceMethod ({ cls := "RoarMillModel", name := "certain", desc := "(I)I" } : Jvm.MethodName)) ∈ lw_all := lw_g (lw_at lw_m7 84 rfl) rfl
theorem q1607 : (Jvm.Cond.selects "RoarMillModel" ({ cls := "RoarMillModel", name := "certain", desc := "(I)I" } : Jvm.MethodName) ({ cls := "RoarMillModel", name := "certain", desc := "(I)I" } : Jvm.MethodName)) ∈ lw_all := lw_g (lw_at lw_m7 85 rfl) rfl
theorem q1608 : (Jvm.Cond.code ({ cls := "RoarMillModel", name := "certain", desc := "(I)I" } : Jvm.MethodName) prog_14_method_61_code (4 : Nat) (Option.some Jvm.ClassFile.FieldType.int)) ∈ lw_all := lw_g (lw_at lw_m7 86 rfl) rfl
theorem q1610 : (Jvm.Cond.instanceMethod ({ cls := "RoarMillModel", name := "guess", desc := "(IIIII)I" } : Jvm.MethodName)) ∈ lw_all := lw_g (lw_at lw_m7 88 rfl) rfl
theorem q1611 : (Jvm.Cond.selects "RoarMillModel" ({ cls := "RoarMillModel", name := "guess", desc := "(IIIII)I" } : Jvm.MethodName) ({ cls := "RoarMillModel", name := "guess", desc := "(IIIII)I" } : Jvm.MethodName)) ∈ lw_all := lw_g (lw_at lw_m7 89 rfl) rfl
theorem q1612 : (Jvm.Cond.code ({ cls := "RoarMillModel", name := "guess", desc := "(IIIII)I" } : Jvm.MethodName) prog_14_method_63_code (7 : Nat) (Option.some Jvm.ClassFile.FieldType.int)) ∈ lw_all := lw_g (lw_at lw_m7 90 rfl) rfl
theorem q1613 : (Jvm.Cond.methodLink "RoarMillModel" (366 : Nat) ({ cls := "RoarMillModel", name := "isStart", desc := "(III)Z" } : Jvm.MethodName)) ∈ lw_all := lw_g (lw_at lw_m7 91 rfl) rfl
theorem q1614 : (Jvm.Cond.static ({ cls := "RoarMillModel", name := "isStart", desc := "(III)Z" } : Jvm.MethodName)) ∈ lw_all := lw_g (lw_at lw_m7 92 rfl) rfl
theorem q1615 : (Jvm.Cond.code ({ cls := "RoarMillModel", name := "isStart", desc := "(III)Z" } : Jvm.MethodName) prog_14_method_62_code (3 : Nat) (Option.some Jvm.ClassFile.FieldType.boolean)) ∈ lw_all := lw_g (lw_at lw_m7 93 rfl) rfl
theorem q1617 : (Jvm.Cond.instanceMethod ({ cls := "RoarMillModel", name := "swapped", desc := "()I" } : Jvm.MethodName)) ∈ lw_all := lw_g (lw_at lw_m7 95 rfl) rfl
theorem q1618 : (Jvm.Cond.selects "RoarMillModel" ({ cls := "RoarMillModel", name := "swapped", desc := "()I" } : Jvm.MethodName) ({ cls := "RoarMillModel", name := "swapped", desc := "()I" } : Jvm.MethodName)) ∈ lw_all := lw_g (lw_at lw_m7 96 rfl) rfl
theorem q1619 : (Jvm.Cond.code ({ cls := "RoarMillModel", name := "swapped", desc := "()I" } : Jvm.MethodName) prog_14_method_64_code (3 : Nat) (Option.some Jvm.ClassFile.FieldType.int)) ∈ lw_all := lw_g (lw_at lw_m7 97 rfl) rfl
theorem q1621 : (Jvm.Cond.instanceMethod ({ cls := "RoarMillModel", name := "plan", desc := "(I)I" } : Jvm.MethodName)) ∈ lw_all := lw_g (lw_at lw_m7 99 rfl) rfl
theorem q1622 : (Jvm.Cond.selects "RoarMillModel" ({ cls := "RoarMillModel", name := "plan", desc := "(I)I" } : Jvm.MethodName) ({ cls := "RoarMillModel", name := "plan", desc := "(I)I" } : Jvm.MethodName)) ∈ lw_all := lw_g (lw_at lw_m7 100 rfl) rfl
theorem q1623 : (Jvm.Cond.code ({ cls := "RoarMillModel", name := "plan", desc := "(I)I" } : Jvm.MethodName) prog_14_method_67_code (6 : Nat) (Option.some Jvm.ClassFile.FieldType.int)) ∈ lw_all := lw_g (lw_at lw_m7 101 rfl) rfl
theorem q1624 : (Jvm.Cond.methodLink "RoarMillModel" (372 : Nat) ({ cls := "RoarMillModel", name := "isWell", desc := "(II)Z" } : Jvm.MethodName)) ∈ lw_all := lw_g (lw_at lw_m7 102 rfl) rfl
theorem q1625 : (Jvm.Cond.privateMethod ({ cls := "RoarMillModel", name := "isWell", desc := "(II)Z" } : Jvm.MethodName)) ∈ lw_tbl := lw_at lw_m7 103 rfl
theorem q1626 : (Jvm.Cond.instanceMethod ({ cls := "RoarMillModel", name := "isWell", desc := "(II)Z" } : Jvm.MethodName)) ∈ lw_all := lw_g (lw_at lw_m7 104 rfl) rfl
theorem q1627 : (Jvm.Cond.code ({ cls := "RoarMillModel", name := "isWell", desc := "(II)Z" } : Jvm.MethodName) prog_14_method_66_code (4 : Nat) (Option.some Jvm.ClassFile.FieldType.boolean)) ∈ lw_all := lw_g (lw_at lw_m7 105 rfl) rfl
theorem q1628 : (Jvm.Cond.methodLink "RoarMillModel" (369 : Nat) ({ cls := "RoarMillModel", name := "copies", desc := "()V" } : Jvm.MethodName)) ∈ lw_all := lw_g (lw_at lw_m7 106 rfl) rfl
theorem q1629 : (Jvm.Cond.privateMethod ({ cls := "RoarMillModel", name := "copies", desc := "()V" } : Jvm.MethodName)) ∈ lw_tbl := lw_at lw_m7 107 rfl
theorem q1630 : (Jvm.Cond.instanceMethod ({ cls := "RoarMillModel", name := "copies", desc := "()V" } : Jvm.MethodName)) ∈ lw_all := lw_g (lw_at lw_m7 108 rfl) rfl
theorem q1631 : (Jvm.Cond.code ({ cls := "RoarMillModel", name := "copies", desc := "()V" } : Jvm.MethodName) prog_14_method_65_code (2 : Nat) (Option.none : Option Jvm.ClassFile.FieldType)) ∈ lw_all := lw_g (lw_at lw_m7 109 rfl) rfl
theorem q1633 : (Jvm.Cond.instanceMethod ({ cls := "RoarMillModel", name := "rate", desc := "(I)I" } : Jvm.MethodName)) ∈ lw_all := lw_g (lw_at lw_m7 111 rfl) rfl
theorem q1634 : (Jvm.Cond.selects "RoarMillModel" ({ cls := "RoarMillModel", name := "rate", desc := "(I)I" } : Jvm.MethodName) ({ cls := "RoarMillModel", name := "rate", desc := "(I)I" } : Jvm.MethodName)) ∈ lw_all := lw_g (lw_at lw_m7 112 rfl) rfl
theorem q1635 : (Jvm.Cond.code ({ cls := "RoarMillModel", name := "rate", desc := "(I)I" } : Jvm.MethodName) prog_14_method_68_code (2 : Nat) (Option.some Jvm.ClassFile.FieldType.int)) ∈ lw_all := lw_g (lw_at lw_m7 113 rfl) rfl
theorem q1637 : (Jvm.Cond.instanceMethod ({ cls := "RoarMillModel", name := "rule", desc := "(I)I" } : Jvm.MethodName)) ∈ lw_all := lw_g (lw_at lw_m7 115 rfl) rfl
theorem q1638 : (Jvm.Cond.selects "RoarMillModel" ({ cls := "RoarMillModel", name := "rule", desc := "(I)I" } : Jvm.MethodName) ({ cls := "RoarMillModel", name := "rule", desc := "(I)I" } : Jvm.MethodName)) ∈ lw_all := lw_g (lw_at lw_m7 116 rfl) rfl
theorem q1639 : (Jvm.Cond.code ({ cls := "RoarMillModel", name := "rule", desc := "(I)I" } : Jvm.MethodName) prog_14_method_70_code (2 : Nat) (Option.some Jvm.ClassFile.FieldType.int)) ∈ lw_all := lw_g (lw_at lw_m7 117 rfl) rfl
theorem q1640 : (Jvm.Cond.methodLink "RoarMillModel" (375 : Nat) ({ cls := "RoarMillModel", name := "rules", desc := "(I)V" } : Jvm.MethodName)) ∈ lw_all := lw_g (lw_at lw_m7 118 rfl) rfl
theorem q1641 : (Jvm.Cond.privateMethod ({ cls := "RoarMillModel", name := "rules", desc := "(I)V" } : Jvm.MethodName)) ∈ lw_tbl := lw_at lw_m7 119 rfl
theorem q1642 : (Jvm.Cond.instanceMethod ({ cls := "RoarMillModel", name := "rules", desc := "(I)V" } : Jvm.MethodName)) ∈ lw_all := lw_g (lw_at lw_m7 120 rfl) rfl
theorem q1643 : (Jvm.Cond.code ({ cls := "RoarMillModel", name := "rules", desc := "(I)V" } : Jvm.MethodName) prog_14_method_69_code (6 : Nat) (Option.none : Option Jvm.ClassFile.FieldType)) ∈ lw_all := lw_g (lw_at lw_m7 121 rfl) rfl
theorem q1645 : (Jvm.Cond.instanceMethod ({ cls := "RoarMillModel", name := "lacks", desc := "(I)I" } : Jvm.MethodName)) ∈ lw_all := lw_g (lw_at lw_m7 123 rfl) rfl
theorem q1646 : (Jvm.Cond.selects "RoarMillModel" ({ cls := "RoarMillModel", name := "lacks", desc := "(I)I" } : Jvm.MethodName) ({ cls := "RoarMillModel", name := "lacks", desc := "(I)I" } : Jvm.MethodName)) ∈ lw_all := lw_g (lw_at lw_m7 124 rfl) rfl
theorem q1647 : (Jvm.Cond.code ({ cls := "RoarMillModel", name := "lacks", desc := "(I)I" } : Jvm.MethodName) prog_14_method_71_code (2 : Nat) (Option.some Jvm.ClassFile.FieldType.int)) ∈ lw_all := lw_g (lw_at lw_m7 125 rfl) rfl
theorem q1649 : (Jvm.Cond.instanceMethod ({ cls := "RoarMillModel", name := "number", desc := "(ZI)I" } : Jvm.MethodName)) ∈ lw_all := lw_g (lw_at lw_m7 127 rfl) rfl
theorem q1650 : (Jvm.Cond.selects "RoarMillModel" ({ cls := "RoarMillModel", name := "number", desc := "(ZI)I" } : Jvm.MethodName) ({ cls := "RoarMillModel", name := "number", desc := "(ZI)I" } : Jvm.MethodName)) ∈ lw_all := lw_g (lw_at lw_m7 128 rfl) rfl
theorem q1651 : (Jvm.Cond.code ({ cls := "RoarMillModel", name := "number", desc := "(ZI)I" } : Jvm.MethodName) prog_14_method_72_code (4 : Nat) (Option.some Jvm.ClassFile.FieldType.int)) ∈ lw_all := lw_g (lw_at lw_m7 129 rfl) rfl
theorem q1653 : (Jvm.Cond.instanceMethod ({ cls := "RoarMillModel", name := "chance", desc := "()I" } : Jvm.MethodName)) ∈ lw_all := lw_g (lw_at lw_m7 131 rfl) rfl
theorem q1654 : (Jvm.Cond.selects "RoarMillModel" ({ cls := "RoarMillModel", name := "chance", desc := "()I" } : Jvm.MethodName) ({ cls := "RoarMillModel", name := "chance", desc := "()I" } : Jvm.MethodName)) ∈ lw_all := lw_g (lw_at lw_m7 132 rfl) rfl
theorem q1655 : (Jvm.Cond.code ({ cls := "RoarMillModel", name := "chance", desc := "()I" } : Jvm.MethodName) prog_14_method_75_code (3 : Nat) (Option.some Jvm.ClassFile.FieldType.int)) ∈ lw_all := lw_g (lw_at lw_m7 133 rfl) rfl
theorem q1656 : (Jvm.Cond.methodLink "RoarMillModel" (381 : Nat) ({ cls := "RoarMillModel", name := "splitsFrom", desc := "(I)I" } : Jvm.MethodName)) ∈ lw_all := lw_g (lw_at lw_m7 134 rfl) rfl
theorem q1657 : (Jvm.Cond.privateMethod ({ cls := "RoarMillModel", name := "splitsFrom", desc := "(I)I" } : Jvm.MethodName)) ∈ lw_tbl := lw_at lw_m7 135 rfl
theorem q1658 : (Jvm.Cond.instanceMethod ({ cls := "RoarMillModel", name := "splitsFrom", desc := "(I)I" } : Jvm.MethodName)) ∈ lw_all := lw_g (lw_at lw_m7 136 rfl) rfl
theorem q1659 : (Jvm.Cond.code ({ cls := "RoarMillModel", name := "splitsFrom", desc := "(I)I" } : Jvm.MethodName) prog_14_method_74_code (7 : Nat) (Option.some Jvm.ClassFile.FieldType.int)) ∈ lw_all := lw_g (lw_at lw_m7 137 rfl) rfl
theorem q1660 : (Jvm.Cond.methodLink "RoarMillModel" (378 : Nat) ({ cls := "RoarMillModel", name := "bits", desc := "(I)I" } : Jvm.MethodName)) ∈ lw_all := lw_g (lw_at lw_m7 138 rfl) rfl
theorem q1661 : (Jvm.Cond.static ({ cls := "RoarMillModel", name := "bits", desc := "(I)I" } : Jvm.MethodName)) ∈ lw_all := lw_g (lw_at lw_m7 139 rfl) rfl
theorem q1662 : (Jvm.Cond.code ({ cls := "RoarMillModel", name := "bits", desc := "(I)I" } : Jvm.MethodName) prog_14_method_73_code (3 : Nat) (Option.some Jvm.ClassFile.FieldType.int)) ∈ lw_all := lw_g (lw_at lw_m7 140 rfl) rfl
theorem q1664 : (Jvm.Cond.instanceMethod ({ cls := "RoarMillModel", name := "splits", desc := "()I" } : Jvm.MethodName)) ∈ lw_all := lw_g (lw_at lw_m7 142 rfl) rfl
theorem q1665 : (Jvm.Cond.selects "RoarMillModel" ({ cls := "RoarMillModel", name := "splits", desc := "()I" } : Jvm.MethodName) ({ cls := "RoarMillModel", name := "splits", desc := "()I" } : Jvm.MethodName)) ∈ lw_all := lw_g (lw_at lw_m7 143 rfl) rfl
theorem q1666 : (Jvm.Cond.code ({ cls := "RoarMillModel", name := "splits", desc := "()I" } : Jvm.MethodName) prog_14_method_76_code (1 : Nat) (Option.some Jvm.ClassFile.FieldType.int)) ∈ lw_all := lw_g (lw_at lw_m7 144 rfl) rfl
theorem q1668 : (Jvm.Cond.instanceMethod ({ cls := "RoarMillModel", name := "clear", desc := "()I" } : Jvm.MethodName)) ∈ lw_all := lw_g (lw_at lw_m7 146 rfl) rfl
theorem q1669 : (Jvm.Cond.selects "RoarMillModel" ({ cls := "RoarMillModel", name := "clear", desc := "()I" } : Jvm.MethodName) ({ cls := "RoarMillModel", name := "clear", desc := "()I" } : Jvm.MethodName)) ∈ lw_all := lw_g (lw_at lw_m7 147 rfl) rfl
theorem q1670 : (Jvm.Cond.code ({ cls := "RoarMillModel", name := "clear", desc := "()I" } : Jvm.MethodName) prog_14_method_77_code (2 : Nat) (Option.some Jvm.ClassFile.FieldType.int)) ∈ lw_all := lw_g (lw_at lw_m7 148 rfl) rfl
theorem q1672 : (Jvm.Cond.instanceMethod ({ cls := "RoarMillModel", name := "marks", desc := "(IIIIII)I" } : Jvm.MethodName)) ∈ lw_all := lw_g (lw_at lw_m7 150 rfl) rfl
theorem q1673 : (Jvm.Cond.selects "RoarMillModel" ({ cls := "RoarMillModel", name := "marks", desc := "(IIIIII)I" } : Jvm.MethodName) ({ cls := "RoarMillModel", name := "marks", desc := "(IIIIII)I" } : Jvm.MethodName)) ∈ lw_all := lw_g (lw_at lw_m7 151 rfl) rfl
theorem q1674 : (Jvm.Cond.code ({ cls := "RoarMillModel", name := "marks", desc := "(IIIIII)I" } : Jvm.MethodName) prog_14_method_79_code (10 : Nat) (Option.some Jvm.ClassFile.FieldType.int)) ∈ lw_all := lw_g (lw_at lw_m7 152 rfl) rfl
theorem q1675 : (Jvm.Cond.constantLong "RoarMillModel" (388 : Nat) (1000000 : Int64)) ∈ lw_all := lw_g (lw_at lw_m7 153 rfl) rfl
theorem q1676 : (Jvm.Cond.methodLink "RoarMillModel" (390 : Nat) ({ cls := "RoarMillModel", name := "leads", desc := "()J" } : Jvm.MethodName)) ∈ lw_all := lw_g (lw_at lw_m7 154 rfl) rfl
theorem q1677 : (Jvm.Cond.privateMethod ({ cls := "RoarMillModel", name := "leads", desc := "()J" } : Jvm.MethodName)) ∈ lw_tbl := lw_at lw_m7 155 rfl
theorem q1678 : (Jvm.Cond.instanceMethod ({ cls := "RoarMillModel", name := "leads", desc := "()J" } : Jvm.MethodName)) ∈ lw_all := lw_g (lw_at lw_m7 156 rfl) rfl
theorem q1679 : (Jvm.Cond.code ({ cls := "RoarMillModel", name := "leads", desc := "()J" } : Jvm.MethodName) prog_14_method_78_code (8 : Nat) (Option.some Jvm.ClassFile.FieldType.long)) ∈ lw_all := lw_g (lw_at lw_m7 157 rfl) rfl
theorem q1680 : (Jvm.Cond.constantLong "RoarMillModel" (384 : Nat) (10000 : Int64)) ∈ lw_all := lw_g (lw_at lw_m7 158 rfl) rfl
theorem q1681 : (Jvm.Cond.constantLong "RoarMillModel" (386 : Nat) (100 : Int64)) ∈ lw_all := lw_g (lw_at lw_m7 159 rfl) rfl
theorem q1683 : (Jvm.Cond.instanceMethod ({ cls := "RoarMillModel", name := "led", desc := "(I)I" } : Jvm.MethodName)) ∈ lw_all := lw_g (lw_at lw_m7 161 rfl) rfl
theorem q1684 : (Jvm.Cond.selects "RoarMillModel" ({ cls := "RoarMillModel", name := "led", desc := "(I)I" } : Jvm.MethodName) ({ cls := "RoarMillModel", name := "led", desc := "(I)I" } : Jvm.MethodName)) ∈ lw_all := lw_g (lw_at lw_m7 162 rfl) rfl
theorem q1685 : (Jvm.Cond.code ({ cls := "RoarMillModel", name := "led", desc := "(I)I" } : Jvm.MethodName) prog_14_method_80_code (2 : Nat) (Option.some Jvm.ClassFile.FieldType.int)) ∈ lw_all := lw_g (lw_at lw_m7 163 rfl) rfl
theorem q1687 : (Jvm.Cond.instanceMethod ({ cls := "RoarMillModel", name := "size", desc := "(I)I" } : Jvm.MethodName)) ∈ lw_all := lw_g (lw_at lw_m7 165 rfl) rfl
theorem q1688 : (Jvm.Cond.selects "RoarMillModel" ({ cls := "RoarMillModel", name := "size", desc := "(I)I" } : Jvm.MethodName) ({ cls := "RoarMillModel", name := "size", desc := "(I)I" } : Jvm.MethodName)) ∈ lw_all := lw_g (lw_at lw_m7 166 rfl) rfl
theorem q1689 : (Jvm.Cond.code ({ cls := "RoarMillModel", name := "size", desc := "(I)I" } : Jvm.MethodName) prog_14_method_81_code (2 : Nat) (Option.some Jvm.ClassFile.FieldType.int)) ∈ lw_all := lw_g (lw_at lw_m7 167 rfl) rfl
theorem q1691 : (Jvm.Cond.instanceMethod ({ cls := "RoarMillModel", name := "trouble", desc := "()I" } : Jvm.MethodName)) ∈ lw_all := lw_g (lw_at lw_m7 169 rfl) rfl
theorem q1692 : (Jvm.Cond.selects "RoarMillModel" ({ cls := "RoarMillModel", name := "trouble", desc := "()I" } : Jvm.MethodName) ({ cls := "RoarMillModel", name := "trouble", desc := "()I" } : Jvm.MethodName)) ∈ lw_all := lw_g (lw_at lw_m7 170 rfl) rfl
theorem q1693 : (Jvm.Cond.code ({ cls := "RoarMillModel", name := "trouble", desc := "()I" } : Jvm.MethodName) prog_14_method_82_code (1 : Nat) (Option.some Jvm.ClassFile.FieldType.int)) ∈ lw_all := lw_g (lw_at lw_m7 171 rfl) rfl
theorem q1702 : (Jvm.Cond.castable "RoarMillModel" "java/lang/Object") ∈ lw_tbl := lw_at lw_m7 180 rfl
theorem in_X8 : ∀ w ∈ wsX80, w ∈ lw_all := lw_in wsX80 [1178, 1180, 1182, 1184, 1186, 1188, 1190, 1192, 1194, 1196, 1198, 1200, 1202, 1204, 1206, 1208, 1210, 1212, 1214, 1216, 1218, 1220, 1222, 1224, 1226, 1228, 1230, 1232, 1234, 1236, 1238, 1240, 1242, 1244, 1246, 1248, 1250] (by decide +kernel) (by decide +kernel)

