set_option maxRecDepth 100000
abbrev eRM (r : Nat → Nat) (v3 : Value) (I : Nat → Int32) (L : Nat → Int64) : va_E := .inr (0, [.ref (r 0), .int (I 1), .ref (r 2), v3, .int (I 4), .int (I 5), .int (I 6), .ref (r 7), .ref (r 8), .ref (r 9), .ref (r 10), .ref (r 11), .ref (r 12), .int (I 13), .ref (r 14), .ref (r 15), .ref (r 16), .ref (r 17), .int (I 18), .ref (r 19), .ref (r 20), .ref (r 21), .ref (r 22), .int (I 23), .long (L 24), .ref (r 25), .ref (r 26), .ref (r 27), .ref (r 28)])
abbrev eRD (r : Nat → Nat) (v8 v9 : Value) (I : Nat → Int32) : va_E := .inr (1, [.ref (r 0), .ref (r 1), .ref (r 2), .int (I 3), .int (I 4), .int (I 5), .int (I 6), .int (I 7), v8, v9])
abbrev eRF (v0 v1 v2 v3 v4 : Value) (I : Nat → Int32) : va_E := .inr (2, [v0, v1, v2, v3, v4, .int (I 5), .int (I 6), .int (I 7)])
abbrev eST (r : Nat → Nat) (I : Nat → Int32) (L : Nat → Int64) : va_E := .inr (3, [.ref (r 0), .ref (r 1), .ref (r 2), .ref (r 3), .int (I 4), .int (I 5), .int (I 6), .int (I 7), .int (I 8), .int (I 9), .int (I 10), .int (I 11), .int (I 12), .int (I 13), .int (I 14), .int (I 15), .long (L 16), .int (I 17)])
abbrev eSE (I : Nat → Int32) : va_E := .inr (4, [.int (I 0), .int (I 1), .int (I 2)])
abbrev eRW (r : Nat → Nat) (I : Nat → Int32) : va_E := .inr (5, [.ref (r 0), .int (I 1)])
abbrev eLE (r : Nat → Nat) (L : Nat → Int64) : va_E := .inr (6, [.ref (r 0), .ref (r 1), .long (L 2)])
abbrev eWK (r : Nat → Nat) (I : Nat → Int32) : va_E := .inr (7, [.ref (r 0), .ref (r 1), .ref (r 2), .int (I 3), .int (I 4), .int (I 5), .int (I 6), .int (I 7), .int (I 8), .int (I 9), .int (I 10), .int (I 11), .int (I 12)])
abbrev eSZ (r : Nat → Nat) (I : Nat → Int32) : va_E := .inr (8, [.ref (r 0), .int (I 1), .int (I 2)])
abbrev eOR (r : Nat → Nat) (I : Nat → Int32) : va_E := .inr (9, [.ref (r 0), .int (I 1), .ref (r 2)])
abbrev eMM (r : Nat → Nat) (v3 v4 : Value) (I : Nat → Int32) (L : Nat → Int64) : va_E := .inr (10, [.int (I 0), .int (I 1), .int (I 2), v3, v4, .ref (r 5), .int (I 6), .int (I 7), .int (I 8), .int (I 9), .int (I 10), .int (I 11), .int (I 12), .int (I 13), .int (I 14), .long (L 15), .ref (r 16), .ref (r 17), .int (I 18), .ref (r 19), .ref (r 20), .ref (r 21), .ref (r 22), .int (I 23), .ref (r 24), .ref (r 25), .ref (r 26), .ref (r 27), .ref (r 28), .int (I 29), .ref (r 30), .ref (r 31), .ref (r 32), .ref (r 33), .ref (r 34), .ref (r 35), .ref (r 36)])
abbrev eMI (r : Nat → Nat) (I : Nat → Int32) : va_E := .inr (11, [.int (I 0), .int (I 1), .int (I 2), .int (I 3), .int (I 4), .int (I 5), .int (I 6), .int (I 7), .int (I 8), .int (I 9), .int (I 10), .ref (r 11), .ref (r 12), .ref (r 13), .ref (r 14), .ref (r 15), .ref (r 16), .ref (r 17)])
abbrev eSG (r : Nat → Nat) (I : Nat → Int32) : va_E := .inr (12, [.ref (r 0), .int (I 1), .int (I 2), .int (I 3)])
abbrev eNE (v0 v1 v2 v3 v4 : Value) (I : Nat → Int32) : va_E := .inr (13, [v0, v1, v2, v3, v4, .int (I 5)])
abbrev aI (k : KK) (n : Nat) (f : Nat → Int32) : va_E := .inl (k.1 0, n, .inl f)
abbrev aB (k : KK) (n : Nat) (f : Nat → Int32) : va_E := .inl (k.1 1, n, .inl f)
abbrev aC (k : KK) (n : Nat) (f : Nat → Int32) : va_E := .inl (k.1 2, n, .inl f)
abbrev aL (k : KK) (n : Nat) (f : Nat → Int64) : va_E := .inl (k.1 3, n, .inr (.inl f))
abbrev aSE (k : KK) (n : Nat) (f : Nat → Option Nat) : va_E := .inl (k.1 4, n, .inr (.inr (.inr (.inr f))))
abbrev aST (k : KK) (n : Nat) (f : Nat → Option Nat) : va_E := .inl (k.1 5, n, .inr (.inr (.inr (.inr f))))
abbrev aSZ (k : KK) (n : Nat) (f : Nat → Option Nat) : va_E := .inl (k.1 6, n, .inr (.inr (.inr (.inr f))))
abbrev aOR (k : KK) (n : Nat) (f : Nat → Option Nat) : va_E := .inl (k.1 7, n, .inr (.inr (.inr (.inr f))))
theorem cb_m2 : (Int8.ofInt (-2)).toInt32 = (-2) := by decide
theorem cb_10 : (Int8.ofInt (10)).toInt32 = 10 := by decide
theorem cb_100 : (Int8.ofInt (100)).toInt32 = 100 := by decide
theorem cb_11 : (Int8.ofInt (11)).toInt32 = 11 := by decide
theorem cb_12 : (Int8.ofInt (12)).toInt32 = 12 := by decide
theorem cb_122 : (Int8.ofInt (122)).toInt32 = 122 := by decide
theorem cb_15 : (Int8.ofInt (15)).toInt32 = 15 := by decide
theorem cb_16 : (Int8.ofInt (16)).toInt32 = 16 := by decide
theorem cb_20 : (Int8.ofInt (20)).toInt32 = 20 := by decide
theorem cb_21 : (Int8.ofInt (21)).toInt32 = 21 := by decide
theorem cb_22 : (Int8.ofInt (22)).toInt32 = 22 := by decide
theorem cb_23 : (Int8.ofInt (23)).toInt32 = 23 := by decide
theorem cb_24 : (Int8.ofInt (24)).toInt32 = 24 := by decide
theorem cb_25 : (Int8.ofInt (25)).toInt32 = 25 := by decide
theorem cb_26 : (Int8.ofInt (26)).toInt32 = 26 := by decide
theorem cb_27 : (Int8.ofInt (27)).toInt32 = 27 := by decide
theorem cb_28 : (Int8.ofInt (28)).toInt32 = 28 := by decide
theorem cb_29 : (Int8.ofInt (29)).toInt32 = 29 := by decide
theorem cb_30 : (Int8.ofInt (30)).toInt32 = 30 := by decide
theorem cb_31 : (Int8.ofInt (31)).toInt32 = 31 := by decide
theorem cb_32 : (Int8.ofInt (32)).toInt32 = 32 := by decide
theorem cb_33 : (Int8.ofInt (33)).toInt32 = 33 := by decide
theorem cb_34 : (Int8.ofInt (34)).toInt32 = 34 := by decide
theorem cb_35 : (Int8.ofInt (35)).toInt32 = 35 := by decide
theorem cb_36 : (Int8.ofInt (36)).toInt32 = 36 := by decide
theorem cb_37 : (Int8.ofInt (37)).toInt32 = 37 := by decide
theorem cb_44 : (Int8.ofInt (44)).toInt32 = 44 := by decide
theorem cb_48 : (Int8.ofInt (48)).toInt32 = 48 := by decide
theorem cb_50 : (Int8.ofInt (50)).toInt32 = 50 := by decide
theorem cb_57 : (Int8.ofInt (57)).toInt32 = 57 := by decide
theorem cb_59 : (Int8.ofInt (59)).toInt32 = 59 := by decide
theorem cb_6 : (Int8.ofInt (6)).toInt32 = 6 := by decide
theorem cb_7 : (Int8.ofInt (7)).toInt32 = 7 := by decide
theorem cb_8 : (Int8.ofInt (8)).toInt32 = 8 := by decide
theorem cb_9 : (Int8.ofInt (9)).toInt32 = 9 := by decide
theorem cb_97 : (Int8.ofInt (97)).toInt32 = 97 := by decide
theorem cb_99 : (Int8.ofInt (99)).toInt32 = 99 := by decide
theorem ci_m1 : Int32.ofInt (-1) = (-1) := by decide
theorem ci_m8 : Int32.ofInt (-8) = (-8) := by decide
theorem ci_0 : Int32.ofInt (0) = 0 := by decide
theorem ci_1 : Int32.ofInt (1) = 1 := by decide
theorem ci_2 : Int32.ofInt (2) = 2 := by decide
theorem ci_3 : Int32.ofInt (3) = 3 := by decide
theorem ci_4 : Int32.ofInt (4) = 4 := by decide
theorem ci_5 : Int32.ofInt (5) = 5 := by decide
theorem ci_7 : Int32.ofInt (7) = 7 := by decide
theorem cs_10000 : (Int16.ofInt (10000)).toInt32 = 10000 := by decide
theorem cs_200 : (Int16.ofInt (200)).toInt32 = 200 := by decide
theorem cs_240 : (Int16.ofInt (240)).toInt32 = 240 := by decide
theorem cs_255 : (Int16.ofInt (255)).toInt32 = 255 := by decide
theorem cs_700 : (Int16.ofInt (700)).toInt32 = 700 := by decide
theorem cs_8400 : (Int16.ofInt (8400)).toInt32 = 8400 := by decide
theorem cs_999 : (Int16.ofInt (999)).toInt32 = 999 := by decide
theorem ftJ3_0 : parseFieldDescriptor (TJ3 0).2.2.1 = some (.array .byte) := by decide +kernel
theorem ftJ3_1 : parseFieldDescriptor (TJ3 1).2.2.1 = some (.byte) := by decide +kernel
theorem ftJ3_2 : parseFieldDescriptor (TJ3 2).2.2.1 = some (.int) := by decide +kernel
theorem ftJ3_3 : parseFieldDescriptor (TJ3 3).2.2.1 = some (.boolean) := by decide +kernel
theorem ftJ9_0 : parseFieldDescriptor (TJ9 0).2.2.1 = some (.object "java/lang/Throwable") := by decide +kernel
theorem ftJ9_1 : parseFieldDescriptor (TJ9 1).2.2.1 = some (.array (.object "java/lang/StackTraceElement")) := by decide +kernel
theorem ftJ9_2 : parseFieldDescriptor (TJ9 2).2.2.1 = some (.object "java/util/List") := by decide +kernel
theorem ftJ9_3 : parseFieldDescriptor (TJ9 3).2.2.1 = some (.object "java/lang/String") := by decide +kernel
theorem ftJ9_4 : parseFieldDescriptor (TJ9 4).2.2.1 = some (.object "java/lang/Object") := by decide +kernel
theorem ftJ9_5 : parseFieldDescriptor (TJ9 5).2.2.1 = some (.int) := by decide +kernel
theorem ftX1_0 : parseFieldDescriptor (TX1 0).2.2.1 = some (.array .byte) := by decide +kernel
theorem ftX1_1 : parseFieldDescriptor (TX1 1).2.2.1 = some (.int) := by decide +kernel
theorem ftX1_10 : parseFieldDescriptor (TX1 10).2.2.1 = some (.object "RoarMill$Settings") := by decide +kernel
theorem ftX1_11 : parseFieldDescriptor (TX1 11).2.2.1 = some (.array (.object "RoarMill$Settings")) := by decide +kernel
theorem ftX1_12 : parseFieldDescriptor (TX1 12).2.2.1 = some (.array .int) := by decide +kernel
theorem ftX1_13 : parseFieldDescriptor (TX1 13).2.2.1 = some (.int) := by decide +kernel
theorem ftX1_14 : parseFieldDescriptor (TX1 14).2.2.1 = some (.array .int) := by decide +kernel
theorem ftX1_15 : parseFieldDescriptor (TX1 15).2.2.1 = some (.array .int) := by decide +kernel
theorem ftX1_16 : parseFieldDescriptor (TX1 16).2.2.1 = some (.array .int) := by decide +kernel
theorem ftX1_17 : parseFieldDescriptor (TX1 17).2.2.1 = some (.array .int) := by decide +kernel
theorem ftX1_18 : parseFieldDescriptor (TX1 18).2.2.1 = some (.int) := by decide +kernel
theorem ftX1_19 : parseFieldDescriptor (TX1 19).2.2.1 = some (.array .int) := by decide +kernel
theorem ftX1_2 : parseFieldDescriptor (TX1 2).2.2.1 = some (.object "RoarMill$Reader") := by decide +kernel
theorem ftX1_20 : parseFieldDescriptor (TX1 20).2.2.1 = some (.array (.object "RoarMill$State")) := by decide +kernel
theorem ftX1_21 : parseFieldDescriptor (TX1 21).2.2.1 = some (.array .int) := by decide +kernel
theorem ftX1_22 : parseFieldDescriptor (TX1 22).2.2.1 = some (.array .int) := by decide +kernel
theorem ftX1_23 : parseFieldDescriptor (TX1 23).2.2.1 = some (.int) := by decide +kernel
theorem ftX1_24 : parseFieldDescriptor (TX1 24).2.2.1 = some (.long) := by decide +kernel
theorem ftX1_25 : parseFieldDescriptor (TX1 25).2.2.1 = some (.array .int) := by decide +kernel
theorem ftX1_26 : parseFieldDescriptor (TX1 26).2.2.1 = some (.object "RoarMill$Row") := by decide +kernel
theorem ftX1_27 : parseFieldDescriptor (TX1 27).2.2.1 = some (.object "RoarMill$Row") := by decide +kernel
theorem ftX1_28 : parseFieldDescriptor (TX1 28).2.2.1 = some (.object "RoarMill$Led") := by decide +kernel
theorem ftX1_3 : parseFieldDescriptor (TX1 3).2.2.1 = some (.object "RoarMill$Works") := by decide +kernel
theorem ftX1_4 : parseFieldDescriptor (TX1 4).2.2.1 = some (.int) := by decide +kernel
theorem ftX1_5 : parseFieldDescriptor (TX1 5).2.2.1 = some (.int) := by decide +kernel
theorem ftX1_6 : parseFieldDescriptor (TX1 6).2.2.1 = some (.int) := by decide +kernel
theorem ftX1_7 : parseFieldDescriptor (TX1 7).2.2.1 = some (.object "RoarMill$State") := by decide +kernel
theorem ftX1_8 : parseFieldDescriptor (TX1 8).2.2.1 = some (.object "RoarMill$State") := by decide +kernel
theorem ftX1_9 : parseFieldDescriptor (TX1 9).2.2.1 = some (.object "RoarMill$Settings") := by decide +kernel
theorem ftX11_0 : parseFieldDescriptor (TX11 0).2.2.1 = some (.object "java/lang/String") := by decide +kernel
theorem ftX11_1 : parseFieldDescriptor (TX11 1).2.2.1 = some (.int) := by decide +kernel
theorem ftX11_2 : parseFieldDescriptor (TX11 2).2.2.1 = some (.int) := by decide +kernel
theorem ftX12_0 : parseFieldDescriptor (TX12 0).2.2.1 = some (.object "java/lang/String") := by decide +kernel
theorem ftX12_1 : parseFieldDescriptor (TX12 1).2.2.1 = some (.int) := by decide +kernel
theorem ftX12_2 : parseFieldDescriptor (TX12 2).2.2.1 = some (.array .int) := by decide +kernel
theorem ftX13_0 : parseFieldDescriptor (TX13 0).2.2.1 = some (.int) := by decide +kernel
theorem ftX13_1 : parseFieldDescriptor (TX13 1).2.2.1 = some (.int) := by decide +kernel
theorem ftX13_10 : parseFieldDescriptor (TX13 10).2.2.1 = some (.int) := by decide +kernel
theorem ftX13_11 : parseFieldDescriptor (TX13 11).2.2.1 = some (.array .int) := by decide +kernel
theorem ftX13_12 : parseFieldDescriptor (TX13 12).2.2.1 = some (.array .int) := by decide +kernel
theorem ftX13_13 : parseFieldDescriptor (TX13 13).2.2.1 = some (.array .int) := by decide +kernel
theorem ftX13_14 : parseFieldDescriptor (TX13 14).2.2.1 = some (.array .int) := by decide +kernel
theorem ftX13_15 : parseFieldDescriptor (TX13 15).2.2.1 = some (.array .int) := by decide +kernel
theorem ftX13_16 : parseFieldDescriptor (TX13 16).2.2.1 = some (.array .long) := by decide +kernel
theorem ftX13_17 : parseFieldDescriptor (TX13 17).2.2.1 = some (.array .int) := by decide +kernel
theorem ftX13_2 : parseFieldDescriptor (TX13 2).2.2.1 = some (.int) := by decide +kernel
theorem ftX13_3 : parseFieldDescriptor (TX13 3).2.2.1 = some (.int) := by decide +kernel
theorem ftX13_4 : parseFieldDescriptor (TX13 4).2.2.1 = some (.int) := by decide +kernel
theorem ftX13_5 : parseFieldDescriptor (TX13 5).2.2.1 = some (.int) := by decide +kernel
theorem ftX13_6 : parseFieldDescriptor (TX13 6).2.2.1 = some (.int) := by decide +kernel
theorem ftX13_7 : parseFieldDescriptor (TX13 7).2.2.1 = some (.int) := by decide +kernel
theorem ftX13_8 : parseFieldDescriptor (TX13 8).2.2.1 = some (.int) := by decide +kernel
theorem ftX13_9 : parseFieldDescriptor (TX13 9).2.2.1 = some (.int) := by decide +kernel
theorem ftX2_0 : parseFieldDescriptor (TX2 0).2.2.1 = some (.object "RoarMill$Refused") := by decide +kernel
theorem ftX2_1 : parseFieldDescriptor (TX2 1).2.2.1 = some (.array .byte) := by decide +kernel
theorem ftX2_2 : parseFieldDescriptor (TX2 2).2.2.1 = some (.array .char) := by decide +kernel
theorem ftX2_3 : parseFieldDescriptor (TX2 3).2.2.1 = some (.int) := by decide +kernel
theorem ftX2_4 : parseFieldDescriptor (TX2 4).2.2.1 = some (.int) := by decide +kernel
theorem ftX2_5 : parseFieldDescriptor (TX2 5).2.2.1 = some (.int) := by decide +kernel
theorem ftX2_6 : parseFieldDescriptor (TX2 6).2.2.1 = some (.int) := by decide +kernel
theorem ftX2_7 : parseFieldDescriptor (TX2 7).2.2.1 = some (.int) := by decide +kernel
theorem ftX2_8 : parseFieldDescriptor (TX2 8).2.2.1 = some (.object "java/lang/String") := by decide +kernel
theorem ftX2_9 : parseFieldDescriptor (TX2 9).2.2.1 = some (.object "RoarMill$Works") := by decide +kernel
theorem ftX3_0 : parseFieldDescriptor (TX3 0).2.2.1 = some (.object "java/lang/Throwable") := by decide +kernel
theorem ftX3_1 : parseFieldDescriptor (TX3 1).2.2.1 = some (.array (.object "java/lang/StackTraceElement")) := by decide +kernel
theorem ftX3_2 : parseFieldDescriptor (TX3 2).2.2.1 = some (.object "java/util/List") := by decide +kernel
theorem ftX3_3 : parseFieldDescriptor (TX3 3).2.2.1 = some (.object "java/lang/String") := by decide +kernel
theorem ftX3_4 : parseFieldDescriptor (TX3 4).2.2.1 = some (.object "java/lang/Object") := by decide +kernel
theorem ftX3_5 : parseFieldDescriptor (TX3 5).2.2.1 = some (.int) := by decide +kernel
theorem ftX3_6 : parseFieldDescriptor (TX3 6).2.2.1 = some (.int) := by decide +kernel
theorem ftX3_7 : parseFieldDescriptor (TX3 7).2.2.1 = some (.int) := by decide +kernel
theorem ftX4_0 : parseFieldDescriptor (TX4 0).2.2.1 = some (.array .int) := by decide +kernel
theorem ftX4_1 : parseFieldDescriptor (TX4 1).2.2.1 = some (.array .int) := by decide +kernel
theorem ftX4_10 : parseFieldDescriptor (TX4 10).2.2.1 = some (.int) := by decide +kernel
theorem ftX4_11 : parseFieldDescriptor (TX4 11).2.2.1 = some (.int) := by decide +kernel
theorem ftX4_12 : parseFieldDescriptor (TX4 12).2.2.1 = some (.int) := by decide +kernel
theorem ftX4_13 : parseFieldDescriptor (TX4 13).2.2.1 = some (.int) := by decide +kernel
theorem ftX4_14 : parseFieldDescriptor (TX4 14).2.2.1 = some (.int) := by decide +kernel
theorem ftX4_15 : parseFieldDescriptor (TX4 15).2.2.1 = some (.int) := by decide +kernel
theorem ftX4_16 : parseFieldDescriptor (TX4 16).2.2.1 = some (.long) := by decide +kernel
theorem ftX4_17 : parseFieldDescriptor (TX4 17).2.2.1 = some (.boolean) := by decide +kernel
theorem ftX4_2 : parseFieldDescriptor (TX4 2).2.2.1 = some (.array .int) := by decide +kernel
theorem ftX4_3 : parseFieldDescriptor (TX4 3).2.2.1 = some (.array .int) := by decide +kernel
theorem ftX4_4 : parseFieldDescriptor (TX4 4).2.2.1 = some (.int) := by decide +kernel
theorem ftX4_5 : parseFieldDescriptor (TX4 5).2.2.1 = some (.int) := by decide +kernel
theorem ftX4_6 : parseFieldDescriptor (TX4 6).2.2.1 = some (.int) := by decide +kernel
theorem ftX4_7 : parseFieldDescriptor (TX4 7).2.2.1 = some (.int) := by decide +kernel
theorem ftX4_8 : parseFieldDescriptor (TX4 8).2.2.1 = some (.int) := by decide +kernel
theorem ftX4_9 : parseFieldDescriptor (TX4 9).2.2.1 = some (.int) := by decide +kernel
theorem ftX5_0 : parseFieldDescriptor (TX5 0).2.2.1 = some (.int) := by decide +kernel
theorem ftX5_1 : parseFieldDescriptor (TX5 1).2.2.1 = some (.int) := by decide +kernel
theorem ftX5_2 : parseFieldDescriptor (TX5 2).2.2.1 = some (.int) := by decide +kernel
theorem ftX6_0 : parseFieldDescriptor (TX6 0).2.2.1 = some (.array .int) := by decide +kernel
theorem ftX6_1 : parseFieldDescriptor (TX6 1).2.2.1 = some (.int) := by decide +kernel
theorem ftX7_0 : parseFieldDescriptor (TX7 0).2.2.1 = some (.array .long) := by decide +kernel
theorem ftX7_1 : parseFieldDescriptor (TX7 1).2.2.1 = some (.array .long) := by decide +kernel
theorem ftX7_2 : parseFieldDescriptor (TX7 2).2.2.1 = some (.long) := by decide +kernel
theorem ftX8_0 : parseFieldDescriptor (TX8 0).2.2.1 = some (.int) := by decide +kernel
theorem ftX8_1 : parseFieldDescriptor (TX8 1).2.2.1 = some (.int) := by decide +kernel
theorem ftX8_10 : parseFieldDescriptor (TX8 10).2.2.1 = some (.int) := by decide +kernel
theorem ftX8_11 : parseFieldDescriptor (TX8 11).2.2.1 = some (.int) := by decide +kernel
theorem ftX8_12 : parseFieldDescriptor (TX8 12).2.2.1 = some (.int) := by decide +kernel
theorem ftX8_13 : parseFieldDescriptor (TX8 13).2.2.1 = some (.int) := by decide +kernel
theorem ftX8_14 : parseFieldDescriptor (TX8 14).2.2.1 = some (.int) := by decide +kernel
theorem ftX8_15 : parseFieldDescriptor (TX8 15).2.2.1 = some (.long) := by decide +kernel
theorem ftX8_16 : parseFieldDescriptor (TX8 16).2.2.1 = some (.array .int) := by decide +kernel
theorem ftX8_17 : parseFieldDescriptor (TX8 17).2.2.1 = some (.array .int) := by decide +kernel
theorem ftX8_18 : parseFieldDescriptor (TX8 18).2.2.1 = some (.int) := by decide +kernel
theorem ftX8_19 : parseFieldDescriptor (TX8 19).2.2.1 = some (.array .int) := by decide +kernel
theorem ftX8_2 : parseFieldDescriptor (TX8 2).2.2.1 = some (.int) := by decide +kernel
theorem ftX8_20 : parseFieldDescriptor (TX8 20).2.2.1 = some (.array .int) := by decide +kernel
theorem ftX8_21 : parseFieldDescriptor (TX8 21).2.2.1 = some (.array .int) := by decide +kernel
theorem ftX8_22 : parseFieldDescriptor (TX8 22).2.2.1 = some (.array .int) := by decide +kernel
theorem ftX8_23 : parseFieldDescriptor (TX8 23).2.2.1 = some (.int) := by decide +kernel
theorem ftX8_24 : parseFieldDescriptor (TX8 24).2.2.1 = some (.array .int) := by decide +kernel
theorem ftX8_25 : parseFieldDescriptor (TX8 25).2.2.1 = some (.array .int) := by decide +kernel
theorem ftX8_26 : parseFieldDescriptor (TX8 26).2.2.1 = some (.array .int) := by decide +kernel
theorem ftX8_27 : parseFieldDescriptor (TX8 27).2.2.1 = some (.array .int) := by decide +kernel
theorem ftX8_28 : parseFieldDescriptor (TX8 28).2.2.1 = some (.array .int) := by decide +kernel
theorem ftX8_29 : parseFieldDescriptor (TX8 29).2.2.1 = some (.int) := by decide +kernel
theorem ftX8_3 : parseFieldDescriptor (TX8 3).2.2.1 = some (.object "RoarMillModel$Mill") := by decide +kernel
theorem ftX8_30 : parseFieldDescriptor (TX8 30).2.2.1 = some (.array .int) := by decide +kernel
theorem ftX8_31 : parseFieldDescriptor (TX8 31).2.2.1 = some (.array .int) := by decide +kernel
theorem ftX8_32 : parseFieldDescriptor (TX8 32).2.2.1 = some (.array .int) := by decide +kernel
theorem ftX8_33 : parseFieldDescriptor (TX8 33).2.2.1 = some (.array .int) := by decide +kernel
theorem ftX8_34 : parseFieldDescriptor (TX8 34).2.2.1 = some (.array .int) := by decide +kernel
theorem ftX8_35 : parseFieldDescriptor (TX8 35).2.2.1 = some (.array .long) := by decide +kernel
theorem ftX8_36 : parseFieldDescriptor (TX8 36).2.2.1 = some (.array .long) := by decide +kernel
theorem ftX8_4 : parseFieldDescriptor (TX8 4).2.2.1 = some (.object "RoarMillModel$Mill") := by decide +kernel
theorem ftX8_5 : parseFieldDescriptor (TX8 5).2.2.1 = some (.array .byte) := by decide +kernel
theorem ftX8_6 : parseFieldDescriptor (TX8 6).2.2.1 = some (.int) := by decide +kernel
theorem ftX8_7 : parseFieldDescriptor (TX8 7).2.2.1 = some (.int) := by decide +kernel
theorem ftX8_8 : parseFieldDescriptor (TX8 8).2.2.1 = some (.int) := by decide +kernel
theorem ftX8_9 : parseFieldDescriptor (TX8 9).2.2.1 = some (.int) := by decide +kernel
theorem ftX9_0 : parseFieldDescriptor (TX9 0).2.2.1 = some (.array (.object "RoarMill$Size")) := by decide +kernel
theorem ftX9_1 : parseFieldDescriptor (TX9 1).2.2.1 = some (.array (.object "RoarMill$Ore")) := by decide +kernel
theorem ftX9_10 : parseFieldDescriptor (TX9 10).2.2.1 = some (.int) := by decide +kernel
theorem ftX9_11 : parseFieldDescriptor (TX9 11).2.2.1 = some (.int) := by decide +kernel
theorem ftX9_12 : parseFieldDescriptor (TX9 12).2.2.1 = some (.int) := by decide +kernel
theorem ftX9_2 : parseFieldDescriptor (TX9 2).2.2.1 = some (.array .int) := by decide +kernel
theorem ftX9_3 : parseFieldDescriptor (TX9 3).2.2.1 = some (.int) := by decide +kernel
theorem ftX9_4 : parseFieldDescriptor (TX9 4).2.2.1 = some (.int) := by decide +kernel
theorem ftX9_5 : parseFieldDescriptor (TX9 5).2.2.1 = some (.int) := by decide +kernel
theorem ftX9_6 : parseFieldDescriptor (TX9 6).2.2.1 = some (.int) := by decide +kernel
theorem ftX9_7 : parseFieldDescriptor (TX9 7).2.2.1 = some (.int) := by decide +kernel
theorem ftX9_8 : parseFieldDescriptor (TX9 8).2.2.1 = some (.int) := by decide +kernel
theorem ftX9_9 : parseFieldDescriptor (TX9 9).2.2.1 = some (.int) := by decide +kernel
theorem xl_0 : (0 : Int32) = nI 0 := by decide
theorem xl_1 : (1 : Int32) = nI 1 := by decide
theorem xl_10 : (10 : Int32) = nI 10 := by decide
theorem xl_100 : (100 : Int32) = nI 100 := by decide
theorem xl_10000 : (10000 : Int32) = nI 10000 := by decide
theorem xl_1073741823 : (1073741823 : Int32) = nI 1073741823 := by decide
theorem xl_11 : (11 : Int32) = nI 11 := by decide
theorem xl_12 : (12 : Int32) = nI 12 := by decide
theorem xl_122 : (122 : Int32) = nI 122 := by decide
theorem xl_15 : (15 : Int32) = nI 15 := by decide
theorem xl_16 : (16 : Int32) = nI 16 := by decide
theorem xl_2 : (2 : Int32) = nI 2 := by decide
theorem xl_20 : (20 : Int32) = nI 20 := by decide
theorem xl_200 : (200 : Int32) = nI 200 := by decide
theorem xl_21 : (21 : Int32) = nI 21 := by decide
theorem xl_22 : (22 : Int32) = nI 22 := by decide
theorem xl_23 : (23 : Int32) = nI 23 := by decide
theorem xl_24 : (24 : Int32) = nI 24 := by decide
theorem xl_240 : (240 : Int32) = nI 240 := by decide
theorem xl_25 : (25 : Int32) = nI 25 := by decide
theorem xl_255 : (255 : Int32) = nI 255 := by decide
theorem xl_26 : (26 : Int32) = nI 26 := by decide
theorem xl_27 : (27 : Int32) = nI 27 := by decide
theorem xl_28 : (28 : Int32) = nI 28 := by decide
theorem xl_29 : (29 : Int32) = nI 29 := by decide
theorem xl_3 : (3 : Int32) = nI 3 := by decide
theorem xl_30 : (30 : Int32) = nI 30 := by decide
theorem xl_31 : (31 : Int32) = nI 31 := by decide
theorem xl_32 : (32 : Int32) = nI 32 := by decide
theorem xl_33 : (33 : Int32) = nI 33 := by decide
theorem xl_34 : (34 : Int32) = nI 34 := by decide
theorem xl_35 : (35 : Int32) = nI 35 := by decide
theorem xl_36 : (36 : Int32) = nI 36 := by decide
theorem xl_37 : (37 : Int32) = nI 37 := by decide
theorem xl_4 : (4 : Int32) = nI 4 := by decide
theorem xl_44 : (44 : Int32) = nI 44 := by decide
theorem xl_48 : (48 : Int32) = nI 48 := by decide
theorem xl_5 : (5 : Int32) = nI 5 := by decide
theorem xl_50 : (50 : Int32) = nI 50 := by decide
theorem xl_57 : (57 : Int32) = nI 57 := by decide
theorem xl_59 : (59 : Int32) = nI 59 := by decide
theorem xl_6 : (6 : Int32) = nI 6 := by decide
theorem xl_7 : (7 : Int32) = nI 7 := by decide
theorem xl_700 : (700 : Int32) = nI 700 := by decide
theorem xl_8 : (8 : Int32) = nI 8 := by decide
theorem xl_8400 : (8400 : Int32) = nI 8400 := by decide
theorem xl_9 : (9 : Int32) = nI 9 := by decide
theorem xl_97 : (97 : Int32) = nI 97 := by decide
theorem xl_99 : (99 : Int32) = nI 99 := by decide
theorem xl_999 : (999 : Int32) = nI 999 := by decide
theorem xl_999999 : (999999 : Int32) = nI 999999 := by decide
theorem nwF_176 {D : va_G} {k : KK} {s : State} {args : Array Value} (h : gx D k s) : (Cond.fieldLinkNest "RoarMillModel" 176 "RoarMillModel$Mill" "room" "I" "RoarMillModel").before args s = true := va_Nw.use rfl (h.2.1 (176, "room", "I") (by decide))
theorem nwF_233 {D : va_G} {k : KK} {s : State} {args : Array Value} (h : gx D k s) : (Cond.fieldLinkNest "RoarMillModel" 233 "RoarMillModel$Mill" "loud" "I" "RoarMillModel").before args s = true := va_Nw.use rfl (h.2.1 (233, "loud", "I") (by decide))
theorem nwF_181 {D : va_G} {k : KK} {s : State} {args : Array Value} (h : gx D k s) : (Cond.fieldLinkNest "RoarMillModel" 181 "RoarMillModel$Mill" "sieve" "I" "RoarMillModel").before args s = true := va_Nw.use rfl (h.2.1 (181, "sieve", "I") (by decide))
theorem nwF_248 {D : va_G} {k : KK} {s : State} {args : Array Value} (h : gx D k s) : (Cond.fieldLinkNest "RoarMillModel" 248 "RoarMillModel$Mill" "slips" "I" "RoarMillModel").before args s = true := va_Nw.use rfl (h.2.1 (248, "slips", "I") (by decide))
theorem nwF_183 {D : va_G} {k : KK} {s : State} {args : Array Value} (h : gx D k s) : (Cond.fieldLinkNest "RoarMillModel" 183 "RoarMillModel$Mill" "life" "I" "RoarMillModel").before args s = true := va_Nw.use rfl (h.2.1 (183, "life", "I") (by decide))
theorem nwF_186 {D : va_G} {k : KK} {s : State} {args : Array Value} (h : gx D k s) : (Cond.fieldLinkNest "RoarMillModel" 186 "RoarMillModel$Mill" "bin" "I" "RoarMillModel").before args s = true := va_Nw.use rfl (h.2.1 (186, "bin", "I") (by decide))
theorem nwF_252 {D : va_G} {k : KK} {s : State} {args : Array Value} (h : gx D k s) : (Cond.fieldLinkNest "RoarMillModel" 252 "RoarMillModel$Mill" "draws" "I" "RoarMillModel").before args s = true := va_Nw.use rfl (h.2.1 (252, "draws", "I") (by decide))
theorem nwF_188 {D : va_G} {k : KK} {s : State} {args : Array Value} (h : gx D k s) : (Cond.fieldLinkNest "RoarMillModel" 188 "RoarMillModel$Mill" "prices" "I" "RoarMillModel").before args s = true := va_Nw.use rfl (h.2.1 (188, "prices", "I") (by decide))
theorem nwF_191 {D : va_G} {k : KK} {s : State} {args : Array Value} (h : gx D k s) : (Cond.fieldLinkNest "RoarMillModel" 191 "RoarMillModel$Mill" "sizes" "I" "RoarMillModel").before args s = true := va_Nw.use rfl (h.2.1 (191, "sizes", "I") (by decide))
theorem nwF_194 {D : va_G} {k : KK} {s : State} {args : Array Value} (h : gx D k s) : (Cond.fieldLinkNest "RoarMillModel" 194 "RoarMillModel$Mill" "ores" "I" "RoarMillModel").before args s = true := va_Nw.use rfl (h.2.1 (194, "ores", "I") (by decide))
theorem nwF_259 {D : va_G} {k : KK} {s : State} {args : Array Value} (h : gx D k s) : (Cond.fieldLinkNest "RoarMillModel" 259 "RoarMillModel$Mill" "names" "I" "RoarMillModel").before args s = true := va_Nw.use rfl (h.2.1 (259, "names", "I") (by decide))
theorem nwF_254 {D : va_G} {k : KK} {s : State} {args : Array Value} (h : gx D k s) : (Cond.fieldLinkNest "RoarMillModel" 254 "RoarMillModel$Mill" "price" "[I" "RoarMillModel").before args s = true := va_Nw.use rfl (h.2.1 (254, "price", "[I") (by decide))
theorem nwF_267 {D : va_G} {k : KK} {s : State} {args : Array Value} (h : gx D k s) : (Cond.fieldLinkNest "RoarMillModel" 267 "RoarMillModel$Mill" "breaks" "[I" "RoarMillModel").before args s = true := va_Nw.use rfl (h.2.1 (267, "breaks", "[I") (by decide))
theorem nwF_270 {D : va_G} {k : KK} {s : State} {args : Array Value} (h : gx D k s) : (Cond.fieldLinkNest "RoarMillModel" 270 "RoarMillModel$Mill" "next" "[I" "RoarMillModel").before args s = true := va_Nw.use rfl (h.2.1 (270, "next", "[I") (by decide))
theorem nwF_276 {D : va_G} {k : KK} {s : State} {args : Array Value} (h : gx D k s) : (Cond.fieldLinkNest "RoarMillModel" 276 "RoarMillModel$Mill" "hard" "[I" "RoarMillModel").before args s = true := va_Nw.use rfl (h.2.1 (276, "hard", "[I") (by decide))
theorem nwF_278 {D : va_G} {k : KK} {s : State} {args : Array Value} (h : gx D k s) : (Cond.fieldLinkNest "RoarMillModel" 278 "RoarMillModel$Mill" "tons" "[I" "RoarMillModel").before args s = true := va_Nw.use rfl (h.2.1 (278, "tons", "[I") (by decide))
theorem nwF_256 {D : va_G} {k : KK} {s : State} {args : Array Value} (h : gx D k s) : (Cond.fieldLinkNest "RoarMillModel" 256 "RoarMillModel$Mill" "name" "[J" "RoarMillModel").before args s = true := va_Nw.use rfl (h.2.1 (256, "name", "[J") (by decide))
theorem nwF_243 {D : va_G} {k : KK} {s : State} {args : Array Value} (h : gx D k s) : (Cond.fieldLinkNest "RoarMillModel" 243 "RoarMillModel$Mill" "sense" "[I" "RoarMillModel").before args s = true := va_Nw.use rfl (h.2.1 (243, "sense", "[I") (by decide))
theorem nwM_X1_X4_init {D : va_G} {k : KK} {s : State} (h : gx D k s) : va_Nw (.methodLinkNest "RoarMill" 28 yX4_init "RoarMill") s := h.2.2.1 ("RoarMill", 28, yX4_init, "RoarMill") (by simp [nwM])
theorem nwM_X1_X5_init {D : va_G} {k : KK} {s : State} (h : gx D k s) : va_Nw (.methodLinkNest "RoarMill" 38 yX5_init "RoarMill") s := h.2.2.1 ("RoarMill", 38, yX5_init, "RoarMill") (by simp [nwM])
theorem nwM_X1_X6_init {D : va_G} {k : KK} {s : State} (h : gx D k s) : va_Nw (.methodLinkNest "RoarMill" 84 yX6_init "RoarMill") s := h.2.2.1 ("RoarMill", 84, yX6_init, "RoarMill") (by simp [nwM])
theorem nwM_X1_X7_init {D : va_G} {k : KK} {s : State} (h : gx D k s) : va_Nw (.methodLinkNest "RoarMill" 94 yX7_init "RoarMill") s := h.2.2.1 ("RoarMill", 94, yX7_init, "RoarMill") (by simp [nwM])
theorem nwM_X2_X9_init {D : va_G} {k : KK} {s : State} (h : gx D k s) : va_Nw (.methodLinkNest "RoarMill$Reader" 119 yX9_init "RoarMill") s := h.2.2.1 ("RoarMill$Reader", 119, yX9_init, "RoarMill") (by simp [nwM])
theorem nwM_X2_X1_in {D : va_G} {k : KK} {s : State} (h : gx D k s) : va_Nw (.methodLinkNest "RoarMill$Reader" 36 yX1_in "RoarMill") s := h.2.2.1 ("RoarMill$Reader", 36, yX1_in, "RoarMill") (by simp [nwM])
theorem nwM_X8_X13_init {D : va_G} {k : KK} {s : State} (h : gx D k s) : va_Nw (.methodLinkNest "RoarMillModel" 286 yX13_init "RoarMillModel") s := h.2.2.1 ("RoarMillModel", 286, yX13_init, "RoarMillModel") (by simp [nwM])
