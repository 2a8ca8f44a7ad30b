set_option maxRecDepth 100000
def dkwJ15_numberOfLeadingZeros_3 : List UInt8 := [5, 124, 59, 27, 26, 4, 124, 100, 172]
abbrev dktJ15_numberOfLeadingZeros_3 : List UInt8 := dkwJ15_numberOfLeadingZeros_3 ++ []
def dkwJ15_numberOfLeadingZeros_2 : List UInt8 := [124, 59, 26, 16, 16, 161, 0, 10, 132, 1, 252, 26, 7, 124, 59, 26, 7, 161, 0, 10, 132, 1, 254, 26]
abbrev dktJ15_numberOfLeadingZeros_2 : List UInt8 := dkwJ15_numberOfLeadingZeros_2 ++ dktJ15_numberOfLeadingZeros_3
def dkwJ15_numberOfLeadingZeros_1 : List UInt8 := [161, 0, 11, 132, 1, 240, 26, 16, 16, 124, 59, 26, 17, 1, 0, 161, 0, 11, 132, 1, 248, 26, 16, 8]
abbrev dktJ15_numberOfLeadingZeros_1 : List UInt8 := dkwJ15_numberOfLeadingZeros_1 ++ dktJ15_numberOfLeadingZeros_2
def dkwJ15_numberOfLeadingZeros_0 : List UInt8 := [26, 157, 0, 14, 26, 154, 0, 8, 16, 32, 167, 0, 4, 3, 172, 16, 31, 60, 26, 19, 1, 8]
abbrev dktJ15_numberOfLeadingZeros_0 : List UInt8 := dkwJ15_numberOfLeadingZeros_0 ++ dktJ15_numberOfLeadingZeros_1
theorem dksJ15_numberOfLeadingZeros_0 : cJ15_numberOfLeadingZeros.data.toList.drop 0 = dktJ15_numberOfLeadingZeros_0 := by decide +kernel
theorem dksJ15_numberOfLeadingZeros_1 : cJ15_numberOfLeadingZeros.data.toList.drop 22 = dktJ15_numberOfLeadingZeros_1 := dk_seg dksJ15_numberOfLeadingZeros_0 22 rfl rfl
theorem dksJ15_numberOfLeadingZeros_2 : cJ15_numberOfLeadingZeros.data.toList.drop 46 = dktJ15_numberOfLeadingZeros_2 := dk_seg dksJ15_numberOfLeadingZeros_1 24 rfl rfl
theorem dksJ15_numberOfLeadingZeros_3 : cJ15_numberOfLeadingZeros.data.toList.drop 70 = dktJ15_numberOfLeadingZeros_3 := dk_seg dksJ15_numberOfLeadingZeros_2 24 rfl rfl
theorem dJ15_numberOfLeadingZeros_0 : decode cJ15_numberOfLeadingZeros 0 = .ok (.iload_n 0, 1) := dk_26 (dk_at dksJ15_numberOfLeadingZeros_0 0 rfl rfl)
theorem dJ15_numberOfLeadingZeros_1 : decode cJ15_numberOfLeadingZeros 1 = .ok (.ifCond .gt 14, 3) := dk_157 0 14 (dk_at dksJ15_numberOfLeadingZeros_0 1 rfl rfl)
theorem dJ15_numberOfLeadingZeros_4 : decode cJ15_numberOfLeadingZeros 4 = .ok (.iload_n 0, 1) := dk_26 (dk_at dksJ15_numberOfLeadingZeros_0 4 rfl rfl)
theorem dJ15_numberOfLeadingZeros_5 : decode cJ15_numberOfLeadingZeros 5 = .ok (.ifCond .ne 8, 3) := dk_154 0 8 (dk_at dksJ15_numberOfLeadingZeros_0 5 rfl rfl)
theorem dJ15_numberOfLeadingZeros_8 : decode cJ15_numberOfLeadingZeros 8 = .ok (.bipush 32, 2) := dk_16 32 (dk_at dksJ15_numberOfLeadingZeros_0 8 rfl rfl)
theorem dJ15_numberOfLeadingZeros_10 : decode cJ15_numberOfLeadingZeros 10 = .ok (.goto 4, 3) := dk_167 0 4 (dk_at dksJ15_numberOfLeadingZeros_0 10 rfl rfl)
theorem dJ15_numberOfLeadingZeros_13 : decode cJ15_numberOfLeadingZeros 13 = .ok (.iconst 0, 1) := dk_3 (dk_at dksJ15_numberOfLeadingZeros_0 13 rfl rfl)
theorem dJ15_numberOfLeadingZeros_14 : decode cJ15_numberOfLeadingZeros 14 = .ok (.ireturn, 1) := dk_172 (dk_at dksJ15_numberOfLeadingZeros_0 14 rfl rfl)
theorem dJ15_numberOfLeadingZeros_15 : decode cJ15_numberOfLeadingZeros 15 = .ok (.bipush 31, 2) := dk_16 31 (dk_at dksJ15_numberOfLeadingZeros_0 15 rfl rfl)
theorem dJ15_numberOfLeadingZeros_17 : decode cJ15_numberOfLeadingZeros 17 = .ok (.istore_n 1, 1) := dk_60 (dk_at dksJ15_numberOfLeadingZeros_0 17 rfl rfl)
theorem dJ15_numberOfLeadingZeros_18 : decode cJ15_numberOfLeadingZeros 18 = .ok (.iload_n 0, 1) := dk_26 (dk_at dksJ15_numberOfLeadingZeros_0 18 rfl rfl)
theorem dJ15_numberOfLeadingZeros_19 : decode cJ15_numberOfLeadingZeros 19 = .ok (.ldc_w 264, 3) := dk_19 1 8 (dk_at dksJ15_numberOfLeadingZeros_0 19 rfl rfl)
theorem dJ15_numberOfLeadingZeros_22 : decode cJ15_numberOfLeadingZeros 22 = .ok (.if_icmp .lt 11, 3) := dk_161 0 11 (dk_at dksJ15_numberOfLeadingZeros_1 0 rfl rfl)
theorem dJ15_numberOfLeadingZeros_25 : decode cJ15_numberOfLeadingZeros 25 = .ok (.iinc 1 (-16), 3) := dk_132 1 240 (dk_at dksJ15_numberOfLeadingZeros_1 3 rfl rfl)
theorem dJ15_numberOfLeadingZeros_28 : decode cJ15_numberOfLeadingZeros 28 = .ok (.iload_n 0, 1) := dk_26 (dk_at dksJ15_numberOfLeadingZeros_1 6 rfl rfl)
theorem dJ15_numberOfLeadingZeros_29 : decode cJ15_numberOfLeadingZeros 29 = .ok (.bipush 16, 2) := dk_16 16 (dk_at dksJ15_numberOfLeadingZeros_1 7 rfl rfl)
theorem dJ15_numberOfLeadingZeros_31 : decode cJ15_numberOfLeadingZeros 31 = .ok (.iushr, 1) := dk_124 (dk_at dksJ15_numberOfLeadingZeros_1 9 rfl rfl)
theorem dJ15_numberOfLeadingZeros_32 : decode cJ15_numberOfLeadingZeros 32 = .ok (.istore_n 0, 1) := dk_59 (dk_at dksJ15_numberOfLeadingZeros_1 10 rfl rfl)
theorem dJ15_numberOfLeadingZeros_33 : decode cJ15_numberOfLeadingZeros 33 = .ok (.iload_n 0, 1) := dk_26 (dk_at dksJ15_numberOfLeadingZeros_1 11 rfl rfl)
theorem dJ15_numberOfLeadingZeros_34 : decode cJ15_numberOfLeadingZeros 34 = .ok (.sipush 256, 3) := dk_17 1 0 (dk_at dksJ15_numberOfLeadingZeros_1 12 rfl rfl)
theorem dJ15_numberOfLeadingZeros_37 : decode cJ15_numberOfLeadingZeros 37 = .ok (.if_icmp .lt 11, 3) := dk_161 0 11 (dk_at dksJ15_numberOfLeadingZeros_1 15 rfl rfl)
theorem dJ15_numberOfLeadingZeros_40 : decode cJ15_numberOfLeadingZeros 40 = .ok (.iinc 1 (-8), 3) := dk_132 1 248 (dk_at dksJ15_numberOfLeadingZeros_1 18 rfl rfl)
theorem dJ15_numberOfLeadingZeros_43 : decode cJ15_numberOfLeadingZeros 43 = .ok (.iload_n 0, 1) := dk_26 (dk_at dksJ15_numberOfLeadingZeros_1 21 rfl rfl)
theorem dJ15_numberOfLeadingZeros_44 : decode cJ15_numberOfLeadingZeros 44 = .ok (.bipush 8, 2) := dk_16 8 (dk_at dksJ15_numberOfLeadingZeros_1 22 rfl rfl)
theorem dJ15_numberOfLeadingZeros_46 : decode cJ15_numberOfLeadingZeros 46 = .ok (.iushr, 1) := dk_124 (dk_at dksJ15_numberOfLeadingZeros_2 0 rfl rfl)
theorem dJ15_numberOfLeadingZeros_47 : decode cJ15_numberOfLeadingZeros 47 = .ok (.istore_n 0, 1) := dk_59 (dk_at dksJ15_numberOfLeadingZeros_2 1 rfl rfl)
theorem dJ15_numberOfLeadingZeros_48 : decode cJ15_numberOfLeadingZeros 48 = .ok (.iload_n 0, 1) := dk_26 (dk_at dksJ15_numberOfLeadingZeros_2 2 rfl rfl)
theorem dJ15_numberOfLeadingZeros_49 : decode cJ15_numberOfLeadingZeros 49 = .ok (.bipush 16, 2) := dk_16 16 (dk_at dksJ15_numberOfLeadingZeros_2 3 rfl rfl)
theorem dJ15_numberOfLeadingZeros_51 : decode cJ15_numberOfLeadingZeros 51 = .ok (.if_icmp .lt 10, 3) := dk_161 0 10 (dk_at dksJ15_numberOfLeadingZeros_2 5 rfl rfl)
theorem dJ15_numberOfLeadingZeros_54 : decode cJ15_numberOfLeadingZeros 54 = .ok (.iinc 1 (-4), 3) := dk_132 1 252 (dk_at dksJ15_numberOfLeadingZeros_2 8 rfl rfl)
theorem dJ15_numberOfLeadingZeros_57 : decode cJ15_numberOfLeadingZeros 57 = .ok (.iload_n 0, 1) := dk_26 (dk_at dksJ15_numberOfLeadingZeros_2 11 rfl rfl)
theorem dJ15_numberOfLeadingZeros_58 : decode cJ15_numberOfLeadingZeros 58 = .ok (.iconst 4, 1) := dk_7 (dk_at dksJ15_numberOfLeadingZeros_2 12 rfl rfl)
theorem dJ15_numberOfLeadingZeros_59 : decode cJ15_numberOfLeadingZeros 59 = .ok (.iushr, 1) := dk_124 (dk_at dksJ15_numberOfLeadingZeros_2 13 rfl rfl)
theorem dJ15_numberOfLeadingZeros_60 : decode cJ15_numberOfLeadingZeros 60 = .ok (.istore_n 0, 1) := dk_59 (dk_at dksJ15_numberOfLeadingZeros_2 14 rfl rfl)
theorem dJ15_numberOfLeadingZeros_61 : decode cJ15_numberOfLeadingZeros 61 = .ok (.iload_n 0, 1) := dk_26 (dk_at dksJ15_numberOfLeadingZeros_2 15 rfl rfl)
theorem dJ15_numberOfLeadingZeros_62 : decode cJ15_numberOfLeadingZeros 62 = .ok (.iconst 4, 1) := dk_7 (dk_at dksJ15_numberOfLeadingZeros_2 16 rfl rfl)
theorem dJ15_numberOfLeadingZeros_63 : decode cJ15_numberOfLeadingZeros 63 = .ok (.if_icmp .lt 10, 3) := dk_161 0 10 (dk_at dksJ15_numberOfLeadingZeros_2 17 rfl rfl)
theorem dJ15_numberOfLeadingZeros_66 : decode cJ15_numberOfLeadingZeros 66 = .ok (.iinc 1 (-2), 3) := dk_132 1 254 (dk_at dksJ15_numberOfLeadingZeros_2 20 rfl rfl)
theorem dJ15_numberOfLeadingZeros_69 : decode cJ15_numberOfLeadingZeros 69 = .ok (.iload_n 0, 1) := dk_26 (dk_at dksJ15_numberOfLeadingZeros_2 23 rfl rfl)
theorem dJ15_numberOfLeadingZeros_70 : decode cJ15_numberOfLeadingZeros 70 = .ok (.iconst 2, 1) := dk_5 (dk_at dksJ15_numberOfLeadingZeros_3 0 rfl rfl)
theorem dJ15_numberOfLeadingZeros_71 : decode cJ15_numberOfLeadingZeros 71 = .ok (.iushr, 1) := dk_124 (dk_at dksJ15_numberOfLeadingZeros_3 1 rfl rfl)
theorem dJ15_numberOfLeadingZeros_72 : decode cJ15_numberOfLeadingZeros 72 = .ok (.istore_n 0, 1) := dk_59 (dk_at dksJ15_numberOfLeadingZeros_3 2 rfl rfl)
theorem dJ15_numberOfLeadingZeros_73 : decode cJ15_numberOfLeadingZeros 73 = .ok (.iload_n 1, 1) := dk_27 (dk_at dksJ15_numberOfLeadingZeros_3 3 rfl rfl)
theorem dJ15_numberOfLeadingZeros_74 : decode cJ15_numberOfLeadingZeros 74 = .ok (.iload_n 0, 1) := dk_26 (dk_at dksJ15_numberOfLeadingZeros_3 4 rfl rfl)
theorem dJ15_numberOfLeadingZeros_75 : decode cJ15_numberOfLeadingZeros 75 = .ok (.iconst 1, 1) := dk_4 (dk_at dksJ15_numberOfLeadingZeros_3 5 rfl rfl)
theorem dJ15_numberOfLeadingZeros_76 : decode cJ15_numberOfLeadingZeros 76 = .ok (.iushr, 1) := dk_124 (dk_at dksJ15_numberOfLeadingZeros_3 6 rfl rfl)
theorem dJ15_numberOfLeadingZeros_77 : decode cJ15_numberOfLeadingZeros 77 = .ok (.isub, 1) := dk_100 (dk_at dksJ15_numberOfLeadingZeros_3 7 rfl rfl)
theorem dJ15_numberOfLeadingZeros_78 : decode cJ15_numberOfLeadingZeros 78 = .ok (.ireturn, 1) := dk_172 (dk_at dksJ15_numberOfLeadingZeros_3 8 rfl rfl)
def dkwJ15_numberOfTrailingZeros_3 : List UInt8 := [5, 124, 59, 27, 26, 4, 124, 96, 172]
abbrev dktJ15_numberOfTrailingZeros_3 : List UInt8 := dkwJ15_numberOfTrailingZeros_3 ++ []
def dkwJ15_numberOfTrailingZeros_2 : List UInt8 := [124, 59, 26, 16, 16, 164, 0, 10, 132, 1, 4, 26, 7, 124, 59, 26, 7, 164, 0, 10, 132, 1, 2, 26]
abbrev dktJ15_numberOfTrailingZeros_2 : List UInt8 := dkwJ15_numberOfTrailingZeros_2 ++ dktJ15_numberOfTrailingZeros_3
def dkwJ15_numberOfTrailingZeros_1 : List UInt8 := [164, 0, 11, 132, 1, 16, 26, 16, 16, 124, 59, 26, 17, 1, 0, 164, 0, 11, 132, 1, 8, 26, 16, 8]
abbrev dktJ15_numberOfTrailingZeros_1 : List UInt8 := dkwJ15_numberOfTrailingZeros_1 ++ dktJ15_numberOfTrailingZeros_2
def dkwJ15_numberOfTrailingZeros_0 : List UInt8 := [26, 2, 130, 26, 4, 100, 126, 59, 26, 157, 0, 8, 26, 16, 32, 126, 172, 4, 60, 26, 19, 1, 8]
abbrev dktJ15_numberOfTrailingZeros_0 : List UInt8 := dkwJ15_numberOfTrailingZeros_0 ++ dktJ15_numberOfTrailingZeros_1
theorem dksJ15_numberOfTrailingZeros_0 : cJ15_numberOfTrailingZeros.data.toList.drop 0 = dktJ15_numberOfTrailingZeros_0 := by decide +kernel
theorem dksJ15_numberOfTrailingZeros_1 : cJ15_numberOfTrailingZeros.data.toList.drop 23 = dktJ15_numberOfTrailingZeros_1 := dk_seg dksJ15_numberOfTrailingZeros_0 23 rfl rfl
theorem dksJ15_numberOfTrailingZeros_2 : cJ15_numberOfTrailingZeros.data.toList.drop 47 = dktJ15_numberOfTrailingZeros_2 := dk_seg dksJ15_numberOfTrailingZeros_1 24 rfl rfl
theorem dksJ15_numberOfTrailingZeros_3 : cJ15_numberOfTrailingZeros.data.toList.drop 71 = dktJ15_numberOfTrailingZeros_3 := dk_seg dksJ15_numberOfTrailingZeros_2 24 rfl rfl
theorem dJ15_numberOfTrailingZeros_0 : decode cJ15_numberOfTrailingZeros 0 = .ok (.iload_n 0, 1) := dk_26 (dk_at dksJ15_numberOfTrailingZeros_0 0 rfl rfl)
theorem dJ15_numberOfTrailingZeros_1 : decode cJ15_numberOfTrailingZeros 1 = .ok (.iconst (-1), 1) := dk_2 (dk_at dksJ15_numberOfTrailingZeros_0 1 rfl rfl)
theorem dJ15_numberOfTrailingZeros_2 : decode cJ15_numberOfTrailingZeros 2 = .ok (.ixor, 1) := dk_130 (dk_at dksJ15_numberOfTrailingZeros_0 2 rfl rfl)
theorem dJ15_numberOfTrailingZeros_3 : decode cJ15_numberOfTrailingZeros 3 = .ok (.iload_n 0, 1) := dk_26 (dk_at dksJ15_numberOfTrailingZeros_0 3 rfl rfl)
theorem dJ15_numberOfTrailingZeros_4 : decode cJ15_numberOfTrailingZeros 4 = .ok (.iconst 1, 1) := dk_4 (dk_at dksJ15_numberOfTrailingZeros_0 4 rfl rfl)
theorem dJ15_numberOfTrailingZeros_5 : decode cJ15_numberOfTrailingZeros 5 = .ok (.isub, 1) := dk_100 (dk_at dksJ15_numberOfTrailingZeros_0 5 rfl rfl)
theorem dJ15_numberOfTrailingZeros_6 : decode cJ15_numberOfTrailingZeros 6 = .ok (.iand, 1) := dk_126 (dk_at dksJ15_numberOfTrailingZeros_0 6 rfl rfl)
theorem dJ15_numberOfTrailingZeros_7 : decode cJ15_numberOfTrailingZeros 7 = .ok (.istore_n 0, 1) := dk_59 (dk_at dksJ15_numberOfTrailingZeros_0 7 rfl rfl)
theorem dJ15_numberOfTrailingZeros_8 : decode cJ15_numberOfTrailingZeros 8 = .ok (.iload_n 0, 1) := dk_26 (dk_at dksJ15_numberOfTrailingZeros_0 8 rfl rfl)
theorem dJ15_numberOfTrailingZeros_9 : decode cJ15_numberOfTrailingZeros 9 = .ok (.ifCond .gt 8, 3) := dk_157 0 8 (dk_at dksJ15_numberOfTrailingZeros_0 9 rfl rfl)
theorem dJ15_numberOfTrailingZeros_12 : decode cJ15_numberOfTrailingZeros 12 = .ok (.iload_n 0, 1) := dk_26 (dk_at dksJ15_numberOfTrailingZeros_0 12 rfl rfl)
theorem dJ15_numberOfTrailingZeros_13 : decode cJ15_numberOfTrailingZeros 13 = .ok (.bipush 32, 2) := dk_16 32 (dk_at dksJ15_numberOfTrailingZeros_0 13 rfl rfl)
theorem dJ15_numberOfTrailingZeros_15 : decode cJ15_numberOfTrailingZeros 15 = .ok (.iand, 1) := dk_126 (dk_at dksJ15_numberOfTrailingZeros_0 15 rfl rfl)
theorem dJ15_numberOfTrailingZeros_16 : decode cJ15_numberOfTrailingZeros 16 = .ok (.ireturn, 1) := dk_172 (dk_at dksJ15_numberOfTrailingZeros_0 16 rfl rfl)
theorem dJ15_numberOfTrailingZeros_17 : decode cJ15_numberOfTrailingZeros 17 = .ok (.iconst 1, 1) := dk_4 (dk_at dksJ15_numberOfTrailingZeros_0 17 rfl rfl)
theorem dJ15_numberOfTrailingZeros_18 : decode cJ15_numberOfTrailingZeros 18 = .ok (.istore_n 1, 1) := dk_60 (dk_at dksJ15_numberOfTrailingZeros_0 18 rfl rfl)
theorem dJ15_numberOfTrailingZeros_19 : decode cJ15_numberOfTrailingZeros 19 = .ok (.iload_n 0, 1) := dk_26 (dk_at dksJ15_numberOfTrailingZeros_0 19 rfl rfl)
theorem dJ15_numberOfTrailingZeros_20 : decode cJ15_numberOfTrailingZeros 20 = .ok (.ldc_w 264, 3) := dk_19 1 8 (dk_at dksJ15_numberOfTrailingZeros_0 20 rfl rfl)
theorem dJ15_numberOfTrailingZeros_23 : decode cJ15_numberOfTrailingZeros 23 = .ok (.if_icmp .le 11, 3) := dk_164 0 11 (dk_at dksJ15_numberOfTrailingZeros_1 0 rfl rfl)
theorem dJ15_numberOfTrailingZeros_26 : decode cJ15_numberOfTrailingZeros 26 = .ok (.iinc 1 16, 3) := dk_132 1 16 (dk_at dksJ15_numberOfTrailingZeros_1 3 rfl rfl)
theorem dJ15_numberOfTrailingZeros_29 : decode cJ15_numberOfTrailingZeros 29 = .ok (.iload_n 0, 1) := dk_26 (dk_at dksJ15_numberOfTrailingZeros_1 6 rfl rfl)
theorem dJ15_numberOfTrailingZeros_30 : decode cJ15_numberOfTrailingZeros 30 = .ok (.bipush 16, 2) := dk_16 16 (dk_at dksJ15_numberOfTrailingZeros_1 7 rfl rfl)
theorem dJ15_numberOfTrailingZeros_32 : decode cJ15_numberOfTrailingZeros 32 = .ok (.iushr, 1) := dk_124 (dk_at dksJ15_numberOfTrailingZeros_1 9 rfl rfl)
theorem dJ15_numberOfTrailingZeros_33 : decode cJ15_numberOfTrailingZeros 33 = .ok (.istore_n 0, 1) := dk_59 (dk_at dksJ15_numberOfTrailingZeros_1 10 rfl rfl)
theorem dJ15_numberOfTrailingZeros_34 : decode cJ15_numberOfTrailingZeros 34 = .ok (.iload_n 0, 1) := dk_26 (dk_at dksJ15_numberOfTrailingZeros_1 11 rfl rfl)
theorem dJ15_numberOfTrailingZeros_35 : decode cJ15_numberOfTrailingZeros 35 = .ok (.sipush 256, 3) := dk_17 1 0 (dk_at dksJ15_numberOfTrailingZeros_1 12 rfl rfl)
theorem dJ15_numberOfTrailingZeros_38 : decode cJ15_numberOfTrailingZeros 38 = .ok (.if_icmp .le 11, 3) := dk_164 0 11 (dk_at dksJ15_numberOfTrailingZeros_1 15 rfl rfl)
theorem dJ15_numberOfTrailingZeros_41 : decode cJ15_numberOfTrailingZeros 41 = .ok (.iinc 1 8, 3) := dk_132 1 8 (dk_at dksJ15_numberOfTrailingZeros_1 18 rfl rfl)
theorem dJ15_numberOfTrailingZeros_44 : decode cJ15_numberOfTrailingZeros 44 = .ok (.iload_n 0, 1) := dk_26 (dk_at dksJ15_numberOfTrailingZeros_1 21 rfl rfl)
theorem dJ15_numberOfTrailingZeros_45 : decode cJ15_numberOfTrailingZeros 45 = .ok (.bipush 8, 2) := dk_16 8 (dk_at dksJ15_numberOfTrailingZeros_1 22 rfl rfl)
theorem dJ15_numberOfTrailingZeros_47 : decode cJ15_numberOfTrailingZeros 47 = .ok (.iushr, 1) := dk_124 (dk_at dksJ15_numberOfTrailingZeros_2 0 rfl rfl)
theorem dJ15_numberOfTrailingZeros_48 : decode cJ15_numberOfTrailingZeros 48 = .ok (.istore_n 0, 1) := dk_59 (dk_at dksJ15_numberOfTrailingZeros_2 1 rfl rfl)
theorem dJ15_numberOfTrailingZeros_49 : decode cJ15_numberOfTrailingZeros 49 = .ok (.iload_n 0, 1) := dk_26 (dk_at dksJ15_numberOfTrailingZeros_2 2 rfl rfl)
theorem dJ15_numberOfTrailingZeros_50 : decode cJ15_numberOfTrailingZeros 50 = .ok (.bipush 16, 2) := dk_16 16 (dk_at dksJ15_numberOfTrailingZeros_2 3 rfl rfl)
theorem dJ15_numberOfTrailingZeros_52 : decode cJ15_numberOfTrailingZeros 52 = .ok (.if_icmp .le 10, 3) := dk_164 0 10 (dk_at dksJ15_numberOfTrailingZeros_2 5 rfl rfl)
theorem dJ15_numberOfTrailingZeros_55 : decode cJ15_numberOfTrailingZeros 55 = .ok (.iinc 1 4, 3) := dk_132 1 4 (dk_at dksJ15_numberOfTrailingZeros_2 8 rfl rfl)
theorem dJ15_numberOfTrailingZeros_58 : decode cJ15_numberOfTrailingZeros 58 = .ok (.iload_n 0, 1) := dk_26 (dk_at dksJ15_numberOfTrailingZeros_2 11 rfl rfl)
theorem dJ15_numberOfTrailingZeros_59 : decode cJ15_numberOfTrailingZeros 59 = .ok (.iconst 4, 1) := dk_7 (dk_at dksJ15_numberOfTrailingZeros_2 12 rfl rfl)
theorem dJ15_numberOfTrailingZeros_60 : decode cJ15_numberOfTrailingZeros 60 = .ok (.iushr, 1) := dk_124 (dk_at dksJ15_numberOfTrailingZeros_2 13 rfl rfl)
theorem dJ15_numberOfTrailingZeros_61 : decode cJ15_numberOfTrailingZeros 61 = .ok (.istore_n 0, 1) := dk_59 (dk_at dksJ15_numberOfTrailingZeros_2 14 rfl rfl)
theorem dJ15_numberOfTrailingZeros_62 : decode cJ15_numberOfTrailingZeros 62 = .ok (.iload_n 0, 1) := dk_26 (dk_at dksJ15_numberOfTrailingZeros_2 15 rfl rfl)
theorem dJ15_numberOfTrailingZeros_63 : decode cJ15_numberOfTrailingZeros 63 = .ok (.iconst 4, 1) := dk_7 (dk_at dksJ15_numberOfTrailingZeros_2 16 rfl rfl)
theorem dJ15_numberOfTrailingZeros_64 : decode cJ15_numberOfTrailingZeros 64 = .ok (.if_icmp .le 10, 3) := dk_164 0 10 (dk_at dksJ15_numberOfTrailingZeros_2 17 rfl rfl)
theorem dJ15_numberOfTrailingZeros_67 : decode cJ15_numberOfTrailingZeros 67 = .ok (.iinc 1 2, 3) := dk_132 1 2 (dk_at dksJ15_numberOfTrailingZeros_2 20 rfl rfl)
theorem dJ15_numberOfTrailingZeros_70 : decode cJ15_numberOfTrailingZeros 70 = .ok (.iload_n 0, 1) := dk_26 (dk_at dksJ15_numberOfTrailingZeros_2 23 rfl rfl)
theorem dJ15_numberOfTrailingZeros_71 : decode cJ15_numberOfTrailingZeros 71 = .ok (.iconst 2, 1) := dk_5 (dk_at dksJ15_numberOfTrailingZeros_3 0 rfl rfl)
theorem dJ15_numberOfTrailingZeros_72 : decode cJ15_numberOfTrailingZeros 72 = .ok (.iushr, 1) := dk_124 (dk_at dksJ15_numberOfTrailingZeros_3 1 rfl rfl)
theorem dJ15_numberOfTrailingZeros_73 : decode cJ15_numberOfTrailingZeros 73 = .ok (.istore_n 0, 1) := dk_59 (dk_at dksJ15_numberOfTrailingZeros_3 2 rfl rfl)
theorem dJ15_numberOfTrailingZeros_74 : decode cJ15_numberOfTrailingZeros 74 = .ok (.iload_n 1, 1) := dk_27 (dk_at dksJ15_numberOfTrailingZeros_3 3 rfl rfl)
theorem dJ15_numberOfTrailingZeros_75 : decode cJ15_numberOfTrailingZeros 75 = .ok (.iload_n 0, 1) := dk_26 (dk_at dksJ15_numberOfTrailingZeros_3 4 rfl rfl)
theorem dJ15_numberOfTrailingZeros_76 : decode cJ15_numberOfTrailingZeros 76 = .ok (.iconst 1, 1) := dk_4 (dk_at dksJ15_numberOfTrailingZeros_3 5 rfl rfl)
theorem dJ15_numberOfTrailingZeros_77 : decode cJ15_numberOfTrailingZeros 77 = .ok (.iushr, 1) := dk_124 (dk_at dksJ15_numberOfTrailingZeros_3 6 rfl rfl)
theorem dJ15_numberOfTrailingZeros_78 : decode cJ15_numberOfTrailingZeros 78 = .ok (.iadd, 1) := dk_96 (dk_at dksJ15_numberOfTrailingZeros_3 7 rfl rfl)
theorem dJ15_numberOfTrailingZeros_79 : decode cJ15_numberOfTrailingZeros 79 = .ok (.ireturn, 1) := dk_172 (dk_at dksJ15_numberOfTrailingZeros_3 8 rfl rfl)
def dkwJ15_bitCount_2 : List UInt8 := [26, 16, 63, 126, 172]
abbrev dktJ15_bitCount_2 : List UInt8 := dkwJ15_bitCount_2 ++ []
def dkwJ15_bitCount_1 : List UInt8 := [26, 26, 7, 124, 96, 19, 1, 11, 126, 59, 26, 26, 16, 8, 124, 96, 59, 26, 26, 16, 16, 124, 96, 59]
abbrev dktJ15_bitCount_1 : List UInt8 := dkwJ15_bitCount_1 ++ dktJ15_bitCount_2
def dkwJ15_bitCount_0 : List UInt8 := [26, 26, 4, 124, 19, 1, 9, 126, 100, 59, 26, 19, 1, 10, 126, 26, 5, 124, 19, 1, 10, 126, 96, 59]
abbrev dktJ15_bitCount_0 : List UInt8 := dkwJ15_bitCount_0 ++ dktJ15_bitCount_1
theorem dksJ15_bitCount_0 : cJ15_bitCount.data.toList.drop 0 = dktJ15_bitCount_0 := by decide +kernel
theorem dksJ15_bitCount_1 : cJ15_bitCount.data.toList.drop 24 = dktJ15_bitCount_1 := dk_seg dksJ15_bitCount_0 24 rfl rfl
theorem dksJ15_bitCount_2 : cJ15_bitCount.data.toList.drop 48 = dktJ15_bitCount_2 := dk_seg dksJ15_bitCount_1 24 rfl rfl
theorem dJ15_bitCount_0 : decode cJ15_bitCount 0 = .ok (.iload_n 0, 1) := dk_26 (dk_at dksJ15_bitCount_0 0 rfl rfl)
theorem dJ15_bitCount_1 : decode cJ15_bitCount 1 = .ok (.iload_n 0, 1) := dk_26 (dk_at dksJ15_bitCount_0 1 rfl rfl)
theorem dJ15_bitCount_2 : decode cJ15_bitCount 2 = .ok (.iconst 1, 1) := dk_4 (dk_at dksJ15_bitCount_0 2 rfl rfl)
theorem dJ15_bitCount_3 : decode cJ15_bitCount 3 = .ok (.iushr, 1) := dk_124 (dk_at dksJ15_bitCount_0 3 rfl rfl)
theorem dJ15_bitCount_4 : decode cJ15_bitCount 4 = .ok (.ldc_w 265, 3) := dk_19 1 9 (dk_at dksJ15_bitCount_0 4 rfl rfl)
theorem dJ15_bitCount_7 : decode cJ15_bitCount 7 = .ok (.iand, 1) := dk_126 (dk_at dksJ15_bitCount_0 7 rfl rfl)
theorem dJ15_bitCount_8 : decode cJ15_bitCount 8 = .ok (.isub, 1) := dk_100 (dk_at dksJ15_bitCount_0 8 rfl rfl)
theorem dJ15_bitCount_9 : decode cJ15_bitCount 9 = .ok (.istore_n 0, 1) := dk_59 (dk_at dksJ15_bitCount_0 9 rfl rfl)
theorem dJ15_bitCount_10 : decode cJ15_bitCount 10 = .ok (.iload_n 0, 1) := dk_26 (dk_at dksJ15_bitCount_0 10 rfl rfl)
theorem dJ15_bitCount_11 : decode cJ15_bitCount 11 = .ok (.ldc_w 266, 3) := dk_19 1 10 (dk_at dksJ15_bitCount_0 11 rfl rfl)
theorem dJ15_bitCount_14 : decode cJ15_bitCount 14 = .ok (.iand, 1) := dk_126 (dk_at dksJ15_bitCount_0 14 rfl rfl)
theorem dJ15_bitCount_15 : decode cJ15_bitCount 15 = .ok (.iload_n 0, 1) := dk_26 (dk_at dksJ15_bitCount_0 15 rfl rfl)
theorem dJ15_bitCount_16 : decode cJ15_bitCount 16 = .ok (.iconst 2, 1) := dk_5 (dk_at dksJ15_bitCount_0 16 rfl rfl)
theorem dJ15_bitCount_17 : decode cJ15_bitCount 17 = .ok (.iushr, 1) := dk_124 (dk_at dksJ15_bitCount_0 17 rfl rfl)
theorem dJ15_bitCount_18 : decode cJ15_bitCount 18 = .ok (.ldc_w 266, 3) := dk_19 1 10 (dk_at dksJ15_bitCount_0 18 rfl rfl)
theorem dJ15_bitCount_21 : decode cJ15_bitCount 21 = .ok (.iand, 1) := dk_126 (dk_at dksJ15_bitCount_0 21 rfl rfl)
theorem dJ15_bitCount_22 : decode cJ15_bitCount 22 = .ok (.iadd, 1) := dk_96 (dk_at dksJ15_bitCount_0 22 rfl rfl)
theorem dJ15_bitCount_23 : decode cJ15_bitCount 23 = .ok (.istore_n 0, 1) := dk_59 (dk_at dksJ15_bitCount_0 23 rfl rfl)
theorem dJ15_bitCount_24 : decode cJ15_bitCount 24 = .ok (.iload_n 0, 1) := dk_26 (dk_at dksJ15_bitCount_1 0 rfl rfl)
theorem dJ15_bitCount_25 : decode cJ15_bitCount 25 = .ok (.iload_n 0, 1) := dk_26 (dk_at dksJ15_bitCount_1 1 rfl rfl)
theorem dJ15_bitCount_26 : decode cJ15_bitCount 26 = .ok (.iconst 4, 1) := dk_7 (dk_at dksJ15_bitCount_1 2 rfl rfl)
theorem dJ15_bitCount_27 : decode cJ15_bitCount 27 = .ok (.iushr, 1) := dk_124 (dk_at dksJ15_bitCount_1 3 rfl rfl)
theorem dJ15_bitCount_28 : decode cJ15_bitCount 28 = .ok (.iadd, 1) := dk_96 (dk_at dksJ15_bitCount_1 4 rfl rfl)
theorem dJ15_bitCount_29 : decode cJ15_bitCount 29 = .ok (.ldc_w 267, 3) := dk_19 1 11 (dk_at dksJ15_bitCount_1 5 rfl rfl)
theorem dJ15_bitCount_32 : decode cJ15_bitCount 32 = .ok (.iand, 1) := dk_126 (dk_at dksJ15_bitCount_1 8 rfl rfl)
theorem dJ15_bitCount_33 : decode cJ15_bitCount 33 = .ok (.istore_n 0, 1) := dk_59 (dk_at dksJ15_bitCount_1 9 rfl rfl)
theorem dJ15_bitCount_34 : decode cJ15_bitCount 34 = .ok (.iload_n 0, 1) := dk_26 (dk_at dksJ15_bitCount_1 10 rfl rfl)
theorem dJ15_bitCount_35 : decode cJ15_bitCount 35 = .ok (.iload_n 0, 1) := dk_26 (dk_at dksJ15_bitCount_1 11 rfl rfl)
theorem dJ15_bitCount_36 : decode cJ15_bitCount 36 = .ok (.bipush 8, 2) := dk_16 8 (dk_at dksJ15_bitCount_1 12 rfl rfl)
theorem dJ15_bitCount_38 : decode cJ15_bitCount 38 = .ok (.iushr, 1) := dk_124 (dk_at dksJ15_bitCount_1 14 rfl rfl)
theorem dJ15_bitCount_39 : decode cJ15_bitCount 39 = .ok (.iadd, 1) := dk_96 (dk_at dksJ15_bitCount_1 15 rfl rfl)
theorem dJ15_bitCount_40 : decode cJ15_bitCount 40 = .ok (.istore_n 0, 1) := dk_59 (dk_at dksJ15_bitCount_1 16 rfl rfl)
theorem dJ15_bitCount_41 : decode cJ15_bitCount 41 = .ok (.iload_n 0, 1) := dk_26 (dk_at dksJ15_bitCount_1 17 rfl rfl)
theorem dJ15_bitCount_42 : decode cJ15_bitCount 42 = .ok (.iload_n 0, 1) := dk_26 (dk_at dksJ15_bitCount_1 18 rfl rfl)
theorem dJ15_bitCount_43 : decode cJ15_bitCount 43 = .ok (.bipush 16, 2) := dk_16 16 (dk_at dksJ15_bitCount_1 19 rfl rfl)
theorem dJ15_bitCount_45 : decode cJ15_bitCount 45 = .ok (.iushr, 1) := dk_124 (dk_at dksJ15_bitCount_1 21 rfl rfl)
theorem dJ15_bitCount_46 : decode cJ15_bitCount 46 = .ok (.iadd, 1) := dk_96 (dk_at dksJ15_bitCount_1 22 rfl rfl)
theorem dJ15_bitCount_47 : decode cJ15_bitCount 47 = .ok (.istore_n 0, 1) := dk_59 (dk_at dksJ15_bitCount_1 23 rfl rfl)
theorem dJ15_bitCount_48 : decode cJ15_bitCount 48 = .ok (.iload_n 0, 1) := dk_26 (dk_at dksJ15_bitCount_2 0 rfl rfl)
theorem dJ15_bitCount_49 : decode cJ15_bitCount 49 = .ok (.bipush 63, 2) := dk_16 63 (dk_at dksJ15_bitCount_2 1 rfl rfl)
theorem dJ15_bitCount_51 : decode cJ15_bitCount 51 = .ok (.iand, 1) := dk_126 (dk_at dksJ15_bitCount_2 3 rfl rfl)
theorem dJ15_bitCount_52 : decode cJ15_bitCount 52 = .ok (.ireturn, 1) := dk_172 (dk_at dksJ15_bitCount_2 4 rfl rfl)
def dkwJ15_stringSize_1 : List UInt8 := [164, 0, 7, 29, 27, 96, 172, 16, 10, 28, 104, 61, 132, 3, 1, 167, 255, 233, 16, 10, 27, 96, 172]
abbrev dktJ15_stringSize_1 : List UInt8 := dkwJ15_stringSize_1 ++ []
def dkwJ15_stringSize_0 : List UInt8 := [4, 60, 26, 155, 0, 8, 3, 60, 26, 116, 59, 16, 246, 61, 4, 62, 29, 16, 10, 162, 0, 23, 26, 28]
abbrev dktJ15_stringSize_0 : List UInt8 := dkwJ15_stringSize_0 ++ dktJ15_stringSize_1
theorem dksJ15_stringSize_0 : cJ15_stringSize.data.toList.drop 0 = dktJ15_stringSize_0 := by decide +kernel
theorem dksJ15_stringSize_1 : cJ15_stringSize.data.toList.drop 24 = dktJ15_stringSize_1 := dk_seg dksJ15_stringSize_0 24 rfl rfl
theorem dJ15_stringSize_0 : decode cJ15_stringSize 0 = .ok (.iconst 1, 1) := dk_4 (dk_at dksJ15_stringSize_0 0 rfl rfl)
theorem dJ15_stringSize_1 : decode cJ15_stringSize 1 = .ok (.istore_n 1, 1) := dk_60 (dk_at dksJ15_stringSize_0 1 rfl rfl)
theorem dJ15_stringSize_2 : decode cJ15_stringSize 2 = .ok (.iload_n 0, 1) := dk_26 (dk_at dksJ15_stringSize_0 2 rfl rfl)
theorem dJ15_stringSize_3 : decode cJ15_stringSize 3 = .ok (.ifCond .lt 8, 3) := dk_155 0 8 (dk_at dksJ15_stringSize_0 3 rfl rfl)
theorem dJ15_stringSize_6 : decode cJ15_stringSize 6 = .ok (.iconst 0, 1) := dk_3 (dk_at dksJ15_stringSize_0 6 rfl rfl)
theorem dJ15_stringSize_7 : decode cJ15_stringSize 7 = .ok (.istore_n 1, 1) := dk_60 (dk_at dksJ15_stringSize_0 7 rfl rfl)
theorem dJ15_stringSize_8 : decode cJ15_stringSize 8 = .ok (.iload_n 0, 1) := dk_26 (dk_at dksJ15_stringSize_0 8 rfl rfl)
theorem dJ15_stringSize_9 : decode cJ15_stringSize 9 = .ok (.ineg, 1) := dk_116 (dk_at dksJ15_stringSize_0 9 rfl rfl)
theorem dJ15_stringSize_10 : decode cJ15_stringSize 10 = .ok (.istore_n 0, 1) := dk_59 (dk_at dksJ15_stringSize_0 10 rfl rfl)
theorem dJ15_stringSize_11 : decode cJ15_stringSize 11 = .ok (.bipush (-10), 2) := dk_16 246 (dk_at dksJ15_stringSize_0 11 rfl rfl)
theorem dJ15_stringSize_13 : decode cJ15_stringSize 13 = .ok (.istore_n 2, 1) := dk_61 (dk_at dksJ15_stringSize_0 13 rfl rfl)
theorem dJ15_stringSize_14 : decode cJ15_stringSize 14 = .ok (.iconst 1, 1) := dk_4 (dk_at dksJ15_stringSize_0 14 rfl rfl)
theorem dJ15_stringSize_15 : decode cJ15_stringSize 15 = .ok (.istore_n 3, 1) := dk_62 (dk_at dksJ15_stringSize_0 15 rfl rfl)
theorem dJ15_stringSize_16 : decode cJ15_stringSize 16 = .ok (.iload_n 3, 1) := dk_29 (dk_at dksJ15_stringSize_0 16 rfl rfl)
theorem dJ15_stringSize_17 : decode cJ15_stringSize 17 = .ok (.bipush 10, 2) := dk_16 10 (dk_at dksJ15_stringSize_0 17 rfl rfl)
theorem dJ15_stringSize_19 : decode cJ15_stringSize 19 = .ok (.if_icmp .ge 23, 3) := dk_162 0 23 (dk_at dksJ15_stringSize_0 19 rfl rfl)
theorem dJ15_stringSize_22 : decode cJ15_stringSize 22 = .ok (.iload_n 0, 1) := dk_26 (dk_at dksJ15_stringSize_0 22 rfl rfl)
theorem dJ15_stringSize_23 : decode cJ15_stringSize 23 = .ok (.iload_n 2, 1) := dk_28 (dk_at dksJ15_stringSize_0 23 rfl rfl)
theorem dJ15_stringSize_24 : decode cJ15_stringSize 24 = .ok (.if_icmp .le 7, 3) := dk_164 0 7 (dk_at dksJ15_stringSize_1 0 rfl rfl)
theorem dJ15_stringSize_27 : decode cJ15_stringSize 27 = .ok (.iload_n 3, 1) := dk_29 (dk_at dksJ15_stringSize_1 3 rfl rfl)
theorem dJ15_stringSize_28 : decode cJ15_stringSize 28 = .ok (.iload_n 1, 1) := dk_27 (dk_at dksJ15_stringSize_1 4 rfl rfl)
theorem dJ15_stringSize_29 : decode cJ15_stringSize 29 = .ok (.iadd, 1) := dk_96 (dk_at dksJ15_stringSize_1 5 rfl rfl)
theorem dJ15_stringSize_30 : decode cJ15_stringSize 30 = .ok (.ireturn, 1) := dk_172 (dk_at dksJ15_stringSize_1 6 rfl rfl)
theorem dJ15_stringSize_31 : decode cJ15_stringSize 31 = .ok (.bipush 10, 2) := dk_16 10 (dk_at dksJ15_stringSize_1 7 rfl rfl)
theorem dJ15_stringSize_33 : decode cJ15_stringSize 33 = .ok (.iload_n 2, 1) := dk_28 (dk_at dksJ15_stringSize_1 9 rfl rfl)
theorem dJ15_stringSize_34 : decode cJ15_stringSize 34 = .ok (.imul, 1) := dk_104 (dk_at dksJ15_stringSize_1 10 rfl rfl)
theorem dJ15_stringSize_35 : decode cJ15_stringSize 35 = .ok (.istore_n 2, 1) := dk_61 (dk_at dksJ15_stringSize_1 11 rfl rfl)
theorem dJ15_stringSize_36 : decode cJ15_stringSize 36 = .ok (.iinc 3 1, 3) := dk_132 3 1 (dk_at dksJ15_stringSize_1 12 rfl rfl)
theorem dJ15_stringSize_39 : decode cJ15_stringSize 39 = .ok (.goto (-23), 3) := dk_167 255 233 (dk_at dksJ15_stringSize_1 15 rfl rfl)
theorem dJ15_stringSize_42 : decode cJ15_stringSize 42 = .ok (.bipush 10, 2) := dk_16 10 (dk_at dksJ15_stringSize_1 18 rfl rfl)
theorem dJ15_stringSize_44 : decode cJ15_stringSize 44 = .ok (.iload_n 1, 1) := dk_27 (dk_at dksJ15_stringSize_1 20 rfl rfl)
theorem dJ15_stringSize_45 : decode cJ15_stringSize 45 = .ok (.iadd, 1) := dk_96 (dk_at dksJ15_stringSize_1 21 rfl rfl)
theorem dJ15_stringSize_46 : decode cJ15_stringSize 46 = .ok (.ireturn, 1) := dk_172 (dk_at dksJ15_stringSize_1 22 rfl rfl)
def dkwJ15_getChars_5 : List UInt8 := [16, 45, 84, 21, 5, 172]
abbrev dktJ15_getChars_5 : List UInt8 := dkwJ15_getChars_5 ++ []
def dkwJ15_getChars_4 : List UInt8 := [132, 5, 255, 21, 5, 178, 0, 87, 26, 116, 51, 84, 21, 6, 153, 0, 12, 44, 132, 5, 255, 21, 5]
abbrev dktJ15_getChars_4 : List UInt8 := dkwJ15_getChars_4 ++ dktJ15_getChars_5
def dkwJ15_getChars_3 : List UInt8 := [167, 255, 209, 44, 132, 5, 255, 21, 5, 178, 0, 83, 26, 116, 51, 84, 26, 16, 247, 162, 0, 16, 44]
abbrev dktJ15_getChars_3 : List UInt8 := dkwJ15_getChars_3 ++ dktJ15_getChars_4
def dkwJ15_getChars_2 : List UInt8 := [21, 5, 178, 0, 83, 21, 4, 51, 84, 44, 132, 5, 255, 21, 5, 178, 0, 87, 21, 4, 51, 84]
abbrev dktJ15_getChars_2 : List UInt8 := dkwJ15_getChars_2 ++ dktJ15_getChars_3
def dkwJ15_getChars_1 : List UInt8 := [16, 156, 163, 0, 47, 26, 16, 100, 108, 62, 29, 16, 100, 104, 26, 100, 54, 4, 29, 59, 44, 132, 5, 255]
abbrev dktJ15_getChars_1 : List UInt8 := dkwJ15_getChars_1 ++ dktJ15_getChars_2
def dkwJ15_getChars_0 : List UInt8 := [27, 54, 5, 26, 156, 0, 7, 4, 167, 0, 4, 3, 54, 6, 21, 6, 154, 0, 6, 26, 116, 59, 26]
abbrev dktJ15_getChars_0 : List UInt8 := dkwJ15_getChars_0 ++ dktJ15_getChars_1
theorem dksJ15_getChars_0 : cJ15_getChars.data.toList.drop 0 = dktJ15_getChars_0 := by decide +kernel
theorem dksJ15_getChars_1 : cJ15_getChars.data.toList.drop 23 = dktJ15_getChars_1 := dk_seg dksJ15_getChars_0 23 rfl rfl
theorem dksJ15_getChars_2 : cJ15_getChars.data.toList.drop 47 = dktJ15_getChars_2 := dk_seg dksJ15_getChars_1 24 rfl rfl
theorem dksJ15_getChars_3 : cJ15_getChars.data.toList.drop 69 = dktJ15_getChars_3 := dk_seg dksJ15_getChars_2 22 rfl rfl
theorem dksJ15_getChars_4 : cJ15_getChars.data.toList.drop 92 = dktJ15_getChars_4 := dk_seg dksJ15_getChars_3 23 rfl rfl
theorem dksJ15_getChars_5 : cJ15_getChars.data.toList.drop 115 = dktJ15_getChars_5 := dk_seg dksJ15_getChars_4 23 rfl rfl
theorem dJ15_getChars_0 : decode cJ15_getChars 0 = .ok (.iload_n 1, 1) := dk_27 (dk_at dksJ15_getChars_0 0 rfl rfl)
theorem dJ15_getChars_1 : decode cJ15_getChars 1 = .ok (.istore 5, 2) := dk_54 5 (dk_at dksJ15_getChars_0 1 rfl rfl)
theorem dJ15_getChars_3 : decode cJ15_getChars 3 = .ok (.iload_n 0, 1) := dk_26 (dk_at dksJ15_getChars_0 3 rfl rfl)
theorem dJ15_getChars_4 : decode cJ15_getChars 4 = .ok (.ifCond .ge 7, 3) := dk_156 0 7 (dk_at dksJ15_getChars_0 4 rfl rfl)
theorem dJ15_getChars_7 : decode cJ15_getChars 7 = .ok (.iconst 1, 1) := dk_4 (dk_at dksJ15_getChars_0 7 rfl rfl)
theorem dJ15_getChars_8 : decode cJ15_getChars 8 = .ok (.goto 4, 3) := dk_167 0 4 (dk_at dksJ15_getChars_0 8 rfl rfl)
theorem dJ15_getChars_11 : decode cJ15_getChars 11 = .ok (.iconst 0, 1) := dk_3 (dk_at dksJ15_getChars_0 11 rfl rfl)
theorem dJ15_getChars_12 : decode cJ15_getChars 12 = .ok (.istore 6, 2) := dk_54 6 (dk_at dksJ15_getChars_0 12 rfl rfl)
theorem dJ15_getChars_14 : decode cJ15_getChars 14 = .ok (.iload 6, 2) := dk_21 6 (dk_at dksJ15_getChars_0 14 rfl rfl)
theorem dJ15_getChars_16 : decode cJ15_getChars 16 = .ok (.ifCond .ne 6, 3) := dk_154 0 6 (dk_at dksJ15_getChars_0 16 rfl rfl)
theorem dJ15_getChars_19 : decode cJ15_getChars 19 = .ok (.iload_n 0, 1) := dk_26 (dk_at dksJ15_getChars_0 19 rfl rfl)
theorem dJ15_getChars_20 : decode cJ15_getChars 20 = .ok (.ineg, 1) := dk_116 (dk_at dksJ15_getChars_0 20 rfl rfl)
theorem dJ15_getChars_21 : decode cJ15_getChars 21 = .ok (.istore_n 0, 1) := dk_59 (dk_at dksJ15_getChars_0 21 rfl rfl)
theorem dJ15_getChars_22 : decode cJ15_getChars 22 = .ok (.iload_n 0, 1) := dk_26 (dk_at dksJ15_getChars_0 22 rfl rfl)
theorem dJ15_getChars_23 : decode cJ15_getChars 23 = .ok (.bipush (-100), 2) := dk_16 156 (dk_at dksJ15_getChars_1 0 rfl rfl)
theorem dJ15_getChars_25 : decode cJ15_getChars 25 = .ok (.if_icmp .gt 47, 3) := dk_163 0 47 (dk_at dksJ15_getChars_1 2 rfl rfl)
theorem dJ15_getChars_28 : decode cJ15_getChars 28 = .ok (.iload_n 0, 1) := dk_26 (dk_at dksJ15_getChars_1 5 rfl rfl)
theorem dJ15_getChars_29 : decode cJ15_getChars 29 = .ok (.bipush 100, 2) := dk_16 100 (dk_at dksJ15_getChars_1 6 rfl rfl)
theorem dJ15_getChars_31 : decode cJ15_getChars 31 = .ok (.idiv, 1) := dk_108 (dk_at dksJ15_getChars_1 8 rfl rfl)
theorem dJ15_getChars_32 : decode cJ15_getChars 32 = .ok (.istore_n 3, 1) := dk_62 (dk_at dksJ15_getChars_1 9 rfl rfl)
theorem dJ15_getChars_33 : decode cJ15_getChars 33 = .ok (.iload_n 3, 1) := dk_29 (dk_at dksJ15_getChars_1 10 rfl rfl)
theorem dJ15_getChars_34 : decode cJ15_getChars 34 = .ok (.bipush 100, 2) := dk_16 100 (dk_at dksJ15_getChars_1 11 rfl rfl)
theorem dJ15_getChars_36 : decode cJ15_getChars 36 = .ok (.imul, 1) := dk_104 (dk_at dksJ15_getChars_1 13 rfl rfl)
theorem dJ15_getChars_37 : decode cJ15_getChars 37 = .ok (.iload_n 0, 1) := dk_26 (dk_at dksJ15_getChars_1 14 rfl rfl)
theorem dJ15_getChars_38 : decode cJ15_getChars 38 = .ok (.isub, 1) := dk_100 (dk_at dksJ15_getChars_1 15 rfl rfl)
theorem dJ15_getChars_39 : decode cJ15_getChars 39 = .ok (.istore 4, 2) := dk_54 4 (dk_at dksJ15_getChars_1 16 rfl rfl)
theorem dJ15_getChars_41 : decode cJ15_getChars 41 = .ok (.iload_n 3, 1) := dk_29 (dk_at dksJ15_getChars_1 18 rfl rfl)
theorem dJ15_getChars_42 : decode cJ15_getChars 42 = .ok (.istore_n 0, 1) := dk_59 (dk_at dksJ15_getChars_1 19 rfl rfl)
theorem dJ15_getChars_43 : decode cJ15_getChars 43 = .ok (.aload_n 2, 1) := dk_44 (dk_at dksJ15_getChars_1 20 rfl rfl)
theorem dJ15_getChars_44 : decode cJ15_getChars 44 = .ok (.iinc 5 (-1), 3) := dk_132 5 255 (dk_at dksJ15_getChars_1 21 rfl rfl)
theorem dJ15_getChars_47 : decode cJ15_getChars 47 = .ok (.iload 5, 2) := dk_21 5 (dk_at dksJ15_getChars_2 0 rfl rfl)
theorem dJ15_getChars_49 : decode cJ15_getChars 49 = .ok (.getstatic 83, 3) := dk_178 0 83 (dk_at dksJ15_getChars_2 2 rfl rfl)
theorem dJ15_getChars_52 : decode cJ15_getChars 52 = .ok (.iload 4, 2) := dk_21 4 (dk_at dksJ15_getChars_2 5 rfl rfl)
theorem dJ15_getChars_54 : decode cJ15_getChars 54 = .ok (.baload, 1) := dk_51 (dk_at dksJ15_getChars_2 7 rfl rfl)
theorem dJ15_getChars_55 : decode cJ15_getChars 55 = .ok (.bastore, 1) := dk_84 (dk_at dksJ15_getChars_2 8 rfl rfl)
theorem dJ15_getChars_56 : decode cJ15_getChars 56 = .ok (.aload_n 2, 1) := dk_44 (dk_at dksJ15_getChars_2 9 rfl rfl)
theorem dJ15_getChars_57 : decode cJ15_getChars 57 = .ok (.iinc 5 (-1), 3) := dk_132 5 255 (dk_at dksJ15_getChars_2 10 rfl rfl)
theorem dJ15_getChars_60 : decode cJ15_getChars 60 = .ok (.iload 5, 2) := dk_21 5 (dk_at dksJ15_getChars_2 13 rfl rfl)
theorem dJ15_getChars_62 : decode cJ15_getChars 62 = .ok (.getstatic 87, 3) := dk_178 0 87 (dk_at dksJ15_getChars_2 15 rfl rfl)
theorem dJ15_getChars_65 : decode cJ15_getChars 65 = .ok (.iload 4, 2) := dk_21 4 (dk_at dksJ15_getChars_2 18 rfl rfl)
theorem dJ15_getChars_67 : decode cJ15_getChars 67 = .ok (.baload, 1) := dk_51 (dk_at dksJ15_getChars_2 20 rfl rfl)
theorem dJ15_getChars_68 : decode cJ15_getChars 68 = .ok (.bastore, 1) := dk_84 (dk_at dksJ15_getChars_2 21 rfl rfl)
theorem dJ15_getChars_69 : decode cJ15_getChars 69 = .ok (.goto (-47), 3) := dk_167 255 209 (dk_at dksJ15_getChars_3 0 rfl rfl)
theorem dJ15_getChars_72 : decode cJ15_getChars 72 = .ok (.aload_n 2, 1) := dk_44 (dk_at dksJ15_getChars_3 3 rfl rfl)
theorem dJ15_getChars_73 : decode cJ15_getChars 73 = .ok (.iinc 5 (-1), 3) := dk_132 5 255 (dk_at dksJ15_getChars_3 4 rfl rfl)
theorem dJ15_getChars_76 : decode cJ15_getChars 76 = .ok (.iload 5, 2) := dk_21 5 (dk_at dksJ15_getChars_3 7 rfl rfl)
theorem dJ15_getChars_78 : decode cJ15_getChars 78 = .ok (.getstatic 83, 3) := dk_178 0 83 (dk_at dksJ15_getChars_3 9 rfl rfl)
theorem dJ15_getChars_81 : decode cJ15_getChars 81 = .ok (.iload_n 0, 1) := dk_26 (dk_at dksJ15_getChars_3 12 rfl rfl)
theorem dJ15_getChars_82 : decode cJ15_getChars 82 = .ok (.ineg, 1) := dk_116 (dk_at dksJ15_getChars_3 13 rfl rfl)
theorem dJ15_getChars_83 : decode cJ15_getChars 83 = .ok (.baload, 1) := dk_51 (dk_at dksJ15_getChars_3 14 rfl rfl)
theorem dJ15_getChars_84 : decode cJ15_getChars 84 = .ok (.bastore, 1) := dk_84 (dk_at dksJ15_getChars_3 15 rfl rfl)
theorem dJ15_getChars_85 : decode cJ15_getChars 85 = .ok (.iload_n 0, 1) := dk_26 (dk_at dksJ15_getChars_3 16 rfl rfl)
theorem dJ15_getChars_86 : decode cJ15_getChars 86 = .ok (.bipush (-9), 2) := dk_16 247 (dk_at dksJ15_getChars_3 17 rfl rfl)
theorem dJ15_getChars_88 : decode cJ15_getChars 88 = .ok (.if_icmp .ge 16, 3) := dk_162 0 16 (dk_at dksJ15_getChars_3 19 rfl rfl)
theorem dJ15_getChars_91 : decode cJ15_getChars 91 = .ok (.aload_n 2, 1) := dk_44 (dk_at dksJ15_getChars_3 22 rfl rfl)
theorem dJ15_getChars_92 : decode cJ15_getChars 92 = .ok (.iinc 5 (-1), 3) := dk_132 5 255 (dk_at dksJ15_getChars_4 0 rfl rfl)
theorem dJ15_getChars_95 : decode cJ15_getChars 95 = .ok (.iload 5, 2) := dk_21 5 (dk_at dksJ15_getChars_4 3 rfl rfl)
theorem dJ15_getChars_97 : decode cJ15_getChars 97 = .ok (.getstatic 87, 3) := dk_178 0 87 (dk_at dksJ15_getChars_4 5 rfl rfl)
theorem dJ15_getChars_100 : decode cJ15_getChars 100 = .ok (.iload_n 0, 1) := dk_26 (dk_at dksJ15_getChars_4 8 rfl rfl)
theorem dJ15_getChars_101 : decode cJ15_getChars 101 = .ok (.ineg, 1) := dk_116 (dk_at dksJ15_getChars_4 9 rfl rfl)
theorem dJ15_getChars_102 : decode cJ15_getChars 102 = .ok (.baload, 1) := dk_51 (dk_at dksJ15_getChars_4 10 rfl rfl)
theorem dJ15_getChars_103 : decode cJ15_getChars 103 = .ok (.bastore, 1) := dk_84 (dk_at dksJ15_getChars_4 11 rfl rfl)
theorem dJ15_getChars_104 : decode cJ15_getChars 104 = .ok (.iload 6, 2) := dk_21 6 (dk_at dksJ15_getChars_4 12 rfl rfl)
theorem dJ15_getChars_106 : decode cJ15_getChars 106 = .ok (.ifCond .eq 12, 3) := dk_153 0 12 (dk_at dksJ15_getChars_4 14 rfl rfl)
theorem dJ15_getChars_109 : decode cJ15_getChars 109 = .ok (.aload_n 2, 1) := dk_44 (dk_at dksJ15_getChars_4 17 rfl rfl)
theorem dJ15_getChars_110 : decode cJ15_getChars 110 = .ok (.iinc 5 (-1), 3) := dk_132 5 255 (dk_at dksJ15_getChars_4 18 rfl rfl)
theorem dJ15_getChars_113 : decode cJ15_getChars 113 = .ok (.iload 5, 2) := dk_21 5 (dk_at dksJ15_getChars_4 21 rfl rfl)
theorem dJ15_getChars_115 : decode cJ15_getChars 115 = .ok (.bipush 45, 2) := dk_16 45 (dk_at dksJ15_getChars_5 0 rfl rfl)
theorem dJ15_getChars_117 : decode cJ15_getChars 117 = .ok (.bastore, 1) := dk_84 (dk_at dksJ15_getChars_5 2 rfl rfl)
theorem dJ15_getChars_118 : decode cJ15_getChars 118 = .ok (.iload 5, 2) := dk_21 5 (dk_at dksJ15_getChars_5 3 rfl rfl)
theorem dJ15_getChars_120 : decode cJ15_getChars 120 = .ok (.ireturn, 1) := dk_172 (dk_at dksJ15_getChars_5 5 rfl rfl)

def x15_bitCount (i : Int32) : Int32 := (((((((i - (((i.toUInt32 >>> ((1 : Int32).toUInt32 &&& Int32.toUInt32 31)).toInt32) &&& 1431655765)) &&& 858993459) + ((((i - (((i.toUInt32 >>> ((1 : Int32).toUInt32 &&& Int32.toUInt32 31)).toInt32) &&& 1431655765)).toUInt32 >>> ((2 : Int32).toUInt32 &&& Int32.toUInt32 31)).toInt32) &&& 858993459)) + (((((i - (((i.toUInt32 >>> ((1 : Int32).toUInt32 &&& Int32.toUInt32 31)).toInt32) &&& 1431655765)) &&& 858993459) + ((((i - (((i.toUInt32 >>> ((1 : Int32).toUInt32 &&& Int32.toUInt32 31)).toInt32) &&& 1431655765)).toUInt32 >>> ((2 : Int32).toUInt32 &&& Int32.toUInt32 31)).toInt32) &&& 858993459)).toUInt32 >>> ((4 : Int32).toUInt32 &&& Int32.toUInt32 31)).toInt32)) &&& 252645135) + (((((((i - (((i.toUInt32 >>> ((1 : Int32).toUInt32 &&& Int32.toUInt32 31)).toInt32) &&& 1431655765)) &&& 858993459) + ((((i - (((i.toUInt32 >>> ((1 : Int32).toUInt32 &&& Int32.toUInt32 31)).toInt32) &&& 1431655765)).toUInt32 >>> ((2 : Int32).toUInt32 &&& Int32.toUInt32 31)).toInt32) &&& 858993459)) + (((((i - (((i.toUInt32 >>> ((1 : Int32).toUInt32 &&& Int32.toUInt32 31)).toInt32) &&& 1431655765)) &&& 858993459) + ((((i - (((i.toUInt32 >>> ((1 : Int32).toUInt32 &&& Int32.toUInt32 31)).toInt32) &&& 1431655765)).toUInt32 >>> ((2 : Int32).toUInt32 &&& Int32.toUInt32 31)).toInt32) &&& 858993459)).toUInt32 >>> ((4 : Int32).toUInt32 &&& Int32.toUInt32 31)).toInt32)) &&& 252645135).toUInt32 >>> ((8 : Int32).toUInt32 &&& Int32.toUInt32 31)).toInt32)) + ((((((((i - (((i.toUInt32 >>> ((1 : Int32).toUInt32 &&& Int32.toUInt32 31)).toInt32) &&& 1431655765)) &&& 858993459) + ((((i - (((i.toUInt32 >>> ((1 : Int32).toUInt32 &&& Int32.toUInt32 31)).toInt32) &&& 1431655765)).toUInt32 >>> ((2 : Int32).toUInt32 &&& Int32.toUInt32 31)).toInt32) &&& 858993459)) + (((((i - (((i.toUInt32 >>> ((1 : Int32).toUInt32 &&& Int32.toUInt32 31)).toInt32) &&& 1431655765)) &&& 858993459) + ((((i - (((i.toUInt32 >>> ((1 : Int32).toUInt32 &&& Int32.toUInt32 31)).toInt32) &&& 1431655765)).toUInt32 >>> ((2 : Int32).toUInt32 &&& Int32.toUInt32 31)).toInt32) &&& 858993459)).toUInt32 >>> ((4 : Int32).toUInt32 &&& Int32.toUInt32 31)).toInt32)) &&& 252645135) + (((((((i - (((i.toUInt32 >>> ((1 : Int32).toUInt32 &&& Int32.toUInt32 31)).toInt32) &&& 1431655765)) &&& 858993459) + ((((i - (((i.toUInt32 >>> ((1 : Int32).toUInt32 &&& Int32.toUInt32 31)).toInt32) &&& 1431655765)).toUInt32 >>> ((2 : Int32).toUInt32 &&& Int32.toUInt32 31)).toInt32) &&& 858993459)) + (((((i - (((i.toUInt32 >>> ((1 : Int32).toUInt32 &&& Int32.toUInt32 31)).toInt32) &&& 1431655765)) &&& 858993459) + ((((i - (((i.toUInt32 >>> ((1 : Int32).toUInt32 &&& Int32.toUInt32 31)).toInt32) &&& 1431655765)).toUInt32 >>> ((2 : Int32).toUInt32 &&& Int32.toUInt32 31)).toInt32) &&& 858993459)).toUInt32 >>> ((4 : Int32).toUInt32 &&& Int32.toUInt32 31)).toInt32)) &&& 252645135).toUInt32 >>> ((8 : Int32).toUInt32 &&& Int32.toUInt32 31)).toInt32)).toUInt32 >>> ((16 : Int32).toUInt32 &&& Int32.toUInt32 31)).toInt32)) &&& 63
set_option maxHeartbeats 4000000 in
theorem met_J15_bitCount {g : Zg} (hG : zG g) {G : zHG} (i : Int32)  : ZM g yJ15_bitCount cJ15_bitCount 1 (some FieldType.int) 0 0 0 [.int i] G (zRet (some (.int (x15_bitCount i))) G) := by
  unfold x15_bitCount
  refine ZM_mk hG (by decide) (Nat.le_of_ble_eq_true rfl) ?_
  intro X hX hname hQ
  show ZW g X 0 0 G 0 [(0, .int i)] []
  refine z_iload_n hX dJ15_bitCount_0 1 rfl (i := 0) rfl 0 rfl ?_
  refine z_iload_n hX dJ15_bitCount_1 2 rfl (i := 0) rfl 0 rfl ?_
  refine z_iconst hX dJ15_bitCount_2 3 rfl zki_1 ?_
  refine z_iushr hX dJ15_bitCount_3 4 rfl (w := (i.toUInt32 >>> ((1 : Int32).toUInt32 &&& Int32.toUInt32 31)).toInt32) rfl ?_
  refine z_ldcw hX q925 dJ15_bitCount_4 7 rfl ?_
  refine z_iand hX dJ15_bitCount_7 8 rfl (w := ((i.toUInt32 >>> ((1 : Int32).toUInt32 &&& Int32.toUInt32 31)).toInt32) &&& 1431655765) rfl ?_
  refine z_isub hX dJ15_bitCount_8 9 rfl (w := i - (((i.toUInt32 >>> ((1 : Int32).toUInt32 &&& Int32.toUInt32 31)).toInt32) &&& 1431655765)) rfl ?_
  refine z_istore_n hX dJ15_bitCount_9 10 rfl (i := 0) rfl (Nat.le_of_ble_eq_true rfl) rfl (L' := [(0, .int (i - (((i.toUInt32 >>> ((1 : Int32).toUInt32 &&& Int32.toUInt32 31)).toInt32) &&& 1431655765)))]) rfl ?_
  refine z_iload_n hX dJ15_bitCount_10 11 rfl (i := 0) rfl 0 rfl ?_
  refine z_ldcw hX q926 dJ15_bitCount_11 14 rfl ?_
  refine z_iand hX dJ15_bitCount_14 15 rfl (w := (i - (((i.toUInt32 >>> ((1 : Int32).toUInt32 &&& Int32.toUInt32 31)).toInt32) &&& 1431655765)) &&& 858993459) rfl ?_
  refine z_iload_n hX dJ15_bitCount_15 16 rfl (i := 0) rfl 0 rfl ?_
  refine z_iconst hX dJ15_bitCount_16 17 rfl zki_2 ?_
  refine z_iushr hX dJ15_bitCount_17 18 rfl (w := ((i - (((i.toUInt32 >>> ((1 : Int32).toUInt32 &&& Int32.toUInt32 31)).toInt32) &&& 1431655765)).toUInt32 >>> ((2 : Int32).toUInt32 &&& Int32.toUInt32 31)).toInt32) rfl ?_
  refine z_ldcw hX q926 dJ15_bitCount_18 21 rfl ?_
  refine z_iand hX dJ15_bitCount_21 22 rfl (w := (((i - (((i.toUInt32 >>> ((1 : Int32).toUInt32 &&& Int32.toUInt32 31)).toInt32) &&& 1431655765)).toUInt32 >>> ((2 : Int32).toUInt32 &&& Int32.toUInt32 31)).toInt32) &&& 858993459) rfl ?_
  refine z_iadd hX dJ15_bitCount_22 23 rfl (w := ((i - (((i.toUInt32 >>> ((1 : Int32).toUInt32 &&& Int32.toUInt32 31)).toInt32) &&& 1431655765)) &&& 858993459) + ((((i - (((i.toUInt32 >>> ((1 : Int32).toUInt32 &&& Int32.toUInt32 31)).toInt32) &&& 1431655765)).toUInt32 >>> ((2 : Int32).toUInt32 &&& Int32.toUInt32 31)).toInt32) &&& 858993459)) rfl ?_
  refine z_istore_n hX dJ15_bitCount_23 24 rfl (i := 0) rfl (Nat.le_of_ble_eq_true rfl) rfl (L' := [(0, .int (((i - (((i.toUInt32 >>> ((1 : Int32).toUInt32 &&& Int32.toUInt32 31)).toInt32) &&& 1431655765)) &&& 858993459) + ((((i - (((i.toUInt32 >>> ((1 : Int32).toUInt32 &&& Int32.toUInt32 31)).toInt32) &&& 1431655765)).toUInt32 >>> ((2 : Int32).toUInt32 &&& Int32.toUInt32 31)).toInt32) &&& 858993459)))]) rfl ?_
  refine z_iload_n hX dJ15_bitCount_24 25 rfl (i := 0) rfl 0 rfl ?_
  refine z_iload_n hX dJ15_bitCount_25 26 rfl (i := 0) rfl 0 rfl ?_
  refine z_iconst hX dJ15_bitCount_26 27 rfl zki_4 ?_
  refine z_iushr hX dJ15_bitCount_27 28 rfl (w := ((((i - (((i.toUInt32 >>> ((1 : Int32).toUInt32 &&& Int32.toUInt32 31)).toInt32) &&& 1431655765)) &&& 858993459) + ((((i - (((i.toUInt32 >>> ((1 : Int32).toUInt32 &&& Int32.toUInt32 31)).toInt32) &&& 1431655765)).toUInt32 >>> ((2 : Int32).toUInt32 &&& Int32.toUInt32 31)).toInt32) &&& 858993459)).toUInt32 >>> ((4 : Int32).toUInt32 &&& Int32.toUInt32 31)).toInt32) rfl ?_
  refine z_iadd hX dJ15_bitCount_28 29 rfl (w := (((i - (((i.toUInt32 >>> ((1 : Int32).toUInt32 &&& Int32.toUInt32 31)).toInt32) &&& 1431655765)) &&& 858993459) + ((((i - (((i.toUInt32 >>> ((1 : Int32).toUInt32 &&& Int32.toUInt32 31)).toInt32) &&& 1431655765)).toUInt32 >>> ((2 : Int32).toUInt32 &&& Int32.toUInt32 31)).toInt32) &&& 858993459)) + (((((i - (((i.toUInt32 >>> ((1 : Int32).toUInt32 &&& Int32.toUInt32 31)).toInt32) &&& 1431655765)) &&& 858993459) + ((((i - (((i.toUInt32 >>> ((1 : Int32).toUInt32 &&& Int32.toUInt32 31)).toInt32) &&& 1431655765)).toUInt32 >>> ((2 : Int32).toUInt32 &&& Int32.toUInt32 31)).toInt32) &&& 858993459)).toUInt32 >>> ((4 : Int32).toUInt32 &&& Int32.toUInt32 31)).toInt32)) rfl ?_
  refine z_ldcw hX q927 dJ15_bitCount_29 32 rfl ?_
  refine z_iand hX dJ15_bitCount_32 33 rfl (w := ((((i - (((i.toUInt32 >>> ((1 : Int32).toUInt32 &&& Int32.toUInt32 31)).toInt32) &&& 1431655765)) &&& 858993459) + ((((i - (((i.toUInt32 >>> ((1 : Int32).toUInt32 &&& Int32.toUInt32 31)).toInt32) &&& 1431655765)).toUInt32 >>> ((2 : Int32).toUInt32 &&& Int32.toUInt32 31)).toInt32) &&& 858993459)) + (((((i - (((i.toUInt32 >>> ((1 : Int32).toUInt32 &&& Int32.toUInt32 31)).toInt32) &&& 1431655765)) &&& 858993459) + ((((i - (((i.toUInt32 >>> ((1 : Int32).toUInt32 &&& Int32.toUInt32 31)).toInt32) &&& 1431655765)).toUInt32 >>> ((2 : Int32).toUInt32 &&& Int32.toUInt32 31)).toInt32) &&& 858993459)).toUInt32 >>> ((4 : Int32).toUInt32 &&& Int32.toUInt32 31)).toInt32)) &&& 252645135) rfl ?_
  refine z_istore_n hX dJ15_bitCount_33 34 rfl (i := 0) rfl (Nat.le_of_ble_eq_true rfl) rfl (L' := [(0, .int (((((i - (((i.toUInt32 >>> ((1 : Int32).toUInt32 &&& Int32.toUInt32 31)).toInt32) &&& 1431655765)) &&& 858993459) + ((((i - (((i.toUInt32 >>> ((1 : Int32).toUInt32 &&& Int32.toUInt32 31)).toInt32) &&& 1431655765)).toUInt32 >>> ((2 : Int32).toUInt32 &&& Int32.toUInt32 31)).toInt32) &&& 858993459)) + (((((i - (((i.toUInt32 >>> ((1 : Int32).toUInt32 &&& Int32.toUInt32 31)).toInt32) &&& 1431655765)) &&& 858993459) + ((((i - (((i.toUInt32 >>> ((1 : Int32).toUInt32 &&& Int32.toUInt32 31)).toInt32) &&& 1431655765)).toUInt32 >>> ((2 : Int32).toUInt32 &&& Int32.toUInt32 31)).toInt32) &&& 858993459)).toUInt32 >>> ((4 : Int32).toUInt32 &&& Int32.toUInt32 31)).toInt32)) &&& 252645135))]) rfl ?_
  refine z_iload_n hX dJ15_bitCount_34 35 rfl (i := 0) rfl 0 rfl ?_
  refine z_iload_n hX dJ15_bitCount_35 36 rfl (i := 0) rfl 0 rfl ?_
  refine z_bipush hX dJ15_bitCount_36 38 rfl zkb_8 ?_
  refine z_iushr hX dJ15_bitCount_38 39 rfl (w := ((((((i - (((i.toUInt32 >>> ((1 : Int32).toUInt32 &&& Int32.toUInt32 31)).toInt32) &&& 1431655765)) &&& 858993459) + ((((i - (((i.toUInt32 >>> ((1 : Int32).toUInt32 &&& Int32.toUInt32 31)).toInt32) &&& 1431655765)).toUInt32 >>> ((2 : Int32).toUInt32 &&& Int32.toUInt32 31)).toInt32) &&& 858993459)) + (((((i - (((i.toUInt32 >>> ((1 : Int32).toUInt32 &&& Int32.toUInt32 31)).toInt32) &&& 1431655765)) &&& 858993459) + ((((i - (((i.toUInt32 >>> ((1 : Int32).toUInt32 &&& Int32.toUInt32 31)).toInt32) &&& 1431655765)).toUInt32 >>> ((2 : Int32).toUInt32 &&& Int32.toUInt32 31)).toInt32) &&& 858993459)).toUInt32 >>> ((4 : Int32).toUInt32 &&& Int32.toUInt32 31)).toInt32)) &&& 252645135).toUInt32 >>> ((8 : Int32).toUInt32 &&& Int32.toUInt32 31)).toInt32) rfl ?_
  refine z_iadd hX dJ15_bitCount_39 40 rfl (w := (((((i - (((i.toUInt32 >>> ((1 : Int32).toUInt32 &&& Int32.toUInt32 31)).toInt32) &&& 1431655765)) &&& 858993459) + ((((i - (((i.toUInt32 >>> ((1 : Int32).toUInt32 &&& Int32.toUInt32 31)).toInt32) &&& 1431655765)).toUInt32 >>> ((2 : Int32).toUInt32 &&& Int32.toUInt32 31)).toInt32) &&& 858993459)) + (((((i - (((i.toUInt32 >>> ((1 : Int32).toUInt32 &&& Int32.toUInt32 31)).toInt32) &&& 1431655765)) &&& 858993459) + ((((i - (((i.toUInt32 >>> ((1 : Int32).toUInt32 &&& Int32.toUInt32 31)).toInt32) &&& 1431655765)).toUInt32 >>> ((2 : Int32).toUInt32 &&& Int32.toUInt32 31)).toInt32) &&& 858993459)).toUInt32 >>> ((4 : Int32).toUInt32 &&& Int32.toUInt32 31)).toInt32)) &&& 252645135) + (((((((i - (((i.toUInt32 >>> ((1 : Int32).toUInt32 &&& Int32.toUInt32 31)).toInt32) &&& 1431655765)) &&& 858993459) + ((((i - (((i.toUInt32 >>> ((1 : Int32).toUInt32 &&& Int32.toUInt32 31)).toInt32) &&& 1431655765)).toUInt32 >>> ((2 : Int32).toUInt32 &&& Int32.toUInt32 31)).toInt32) &&& 858993459)) + (((((i - (((i.toUInt32 >>> ((1 : Int32).toUInt32 &&& Int32.toUInt32 31)).toInt32) &&& 1431655765)) &&& 858993459) + ((((i - (((i.toUInt32 >>> ((1 : Int32).toUInt32 &&& Int32.toUInt32 31)).toInt32) &&& 1431655765)).toUInt32 >>> ((2 : Int32).toUInt32 &&& Int32.toUInt32 31)).toInt32) &&& 858993459)).toUInt32 >>> ((4 : Int32).toUInt32 &&& Int32.toUInt32 31)).toInt32)) &&& 252645135).toUInt32 >>> ((8 : Int32).toUInt32 &&& Int32.toUInt32 31)).toInt32)) rfl ?_
  refine z_istore_n hX dJ15_bitCount_40 41 rfl (i := 0) rfl (Nat.le_of_ble_eq_true rfl) rfl (L' := [(0, .int ((((((i - (((i.toUInt32 >>> ((1 : Int32).toUInt32 &&& Int32.toUInt32 31)).toInt32) &&& 1431655765)) &&& 858993459) + ((((i - (((i.toUInt32 >>> ((1 : Int32).toUInt32 &&& Int32.toUInt32 31)).toInt32) &&& 1431655765)).toUInt32 >>> ((2 : Int32).toUInt32 &&& Int32.toUInt32 31)).toInt32) &&& 858993459)) + (((((i - (((i.toUInt32 >>> ((1 : Int32).toUInt32 &&& Int32.toUInt32 31)).toInt32) &&& 1431655765)) &&& 858993459) + ((((i - (((i.toUInt32 >>> ((1 : Int32).toUInt32 &&& Int32.toUInt32 31)).toInt32) &&& 1431655765)).toUInt32 >>> ((2 : Int32).toUInt32 &&& Int32.toUInt32 31)).toInt32) &&& 858993459)).toUInt32 >>> ((4 : Int32).toUInt32 &&& Int32.toUInt32 31)).toInt32)) &&& 252645135) + (((((((i - (((i.toUInt32 >>> ((1 : Int32).toUInt32 &&& Int32.toUInt32 31)).toInt32) &&& 1431655765)) &&& 858993459) + ((((i - (((i.toUInt32 >>> ((1 : Int32).toUInt32 &&& Int32.toUInt32 31)).toInt32) &&& 1431655765)).toUInt32 >>> ((2 : Int32).toUInt32 &&& Int32.toUInt32 31)).toInt32) &&& 858993459)) + (((((i - (((i.toUInt32 >>> ((1 : Int32).toUInt32 &&& Int32.toUInt32 31)).toInt32) &&& 1431655765)) &&& 858993459) + ((((i - (((i.toUInt32 >>> ((1 : Int32).toUInt32 &&& Int32.toUInt32 31)).toInt32) &&& 1431655765)).toUInt32 >>> ((2 : Int32).toUInt32 &&& Int32.toUInt32 31)).toInt32) &&& 858993459)).toUInt32 >>> ((4 : Int32).toUInt32 &&& Int32.toUInt32 31)).toInt32)) &&& 252645135).toUInt32 >>> ((8 : Int32).toUInt32 &&& Int32.toUInt32 31)).toInt32)))]) rfl ?_
  refine z_iload_n hX dJ15_bitCount_41 42 rfl (i := 0) rfl 0 rfl ?_
  refine z_iload_n hX dJ15_bitCount_42 43 rfl (i := 0) rfl 0 rfl ?_
  refine z_bipush hX dJ15_bitCount_43 45 rfl zkb_16 ?_
  refine z_iushr hX dJ15_bitCount_45 46 rfl (w := (((((((i - (((i.toUInt32 >>> ((1 : Int32).toUInt32 &&& Int32.toUInt32 31)).toInt32) &&& 1431655765)) &&& 858993459) + ((((i - (((i.toUInt32 >>> ((1 : Int32).toUInt32 &&& Int32.toUInt32 31)).toInt32) &&& 1431655765)).toUInt32 >>> ((2 : Int32).toUInt32 &&& Int32.toUInt32 31)).toInt32) &&& 858993459)) + (((((i - (((i.toUInt32 >>> ((1 : Int32).toUInt32 &&& Int32.toUInt32 31)).toInt32) &&& 1431655765)) &&& 858993459) + ((((i - (((i.toUInt32 >>> ((1 : Int32).toUInt32 &&& Int32.toUInt32 31)).toInt32) &&& 1431655765)).toUInt32 >>> ((2 : Int32).toUInt32 &&& Int32.toUInt32 31)).toInt32) &&& 858993459)).toUInt32 >>> ((4 : Int32).toUInt32 &&& Int32.toUInt32 31)).toInt32)) &&& 252645135) + (((((((i - (((i.toUInt32 >>> ((1 : Int32).toUInt32 &&& Int32.toUInt32 31)).toInt32) &&& 1431655765)) &&& 858993459) + ((((i - (((i.toUInt32 >>> ((1 : Int32).toUInt32 &&& Int32.toUInt32 31)).toInt32) &&& 1431655765)).toUInt32 >>> ((2 : Int32).toUInt32 &&& Int32.toUInt32 31)).toInt32) &&& 858993459)) + (((((i - (((i.toUInt32 >>> ((1 : Int32).toUInt32 &&& Int32.toUInt32 31)).toInt32) &&& 1431655765)) &&& 858993459) + ((((i - (((i.toUInt32 >>> ((1 : Int32).toUInt32 &&& Int32.toUInt32 31)).toInt32) &&& 1431655765)).toUInt32 >>> ((2 : Int32).toUInt32 &&& Int32.toUInt32 31)).toInt32) &&& 858993459)).toUInt32 >>> ((4 : Int32).toUInt32 &&& Int32.toUInt32 31)).toInt32)) &&& 252645135).toUInt32 >>> ((8 : Int32).toUInt32 &&& Int32.toUInt32 31)).toInt32)).toUInt32 >>> ((16 : Int32).toUInt32 &&& Int32.toUInt32 31)).toInt32) rfl ?_
  refine z_iadd hX dJ15_bitCount_46 47 rfl (w := ((((((i - (((i.toUInt32 >>> ((1 : Int32).toUInt32 &&& Int32.toUInt32 31)).toInt32) &&& 1431655765)) &&& 858993459) + ((((i - (((i.toUInt32 >>> ((1 : Int32).toUInt32 &&& Int32.toUInt32 31)).toInt32) &&& 1431655765)).toUInt32 >>> ((2 : Int32).toUInt32 &&& Int32.toUInt32 31)).toInt32) &&& 858993459)) + (((((i - (((i.toUInt32 >>> ((1 : Int32).toUInt32 &&& Int32.toUInt32 31)).toInt32) &&& 1431655765)) &&& 858993459) + ((((i - (((i.toUInt32 >>> ((1 : Int32).toUInt32 &&& Int32.toUInt32 31)).toInt32) &&& 1431655765)).toUInt32 >>> ((2 : Int32).toUInt32 &&& Int32.toUInt32 31)).toInt32) &&& 858993459)).toUInt32 >>> ((4 : Int32).toUInt32 &&& Int32.toUInt32 31)).toInt32)) &&& 252645135) + (((((((i - (((i.toUInt32 >>> ((1 : Int32).toUInt32 &&& Int32.toUInt32 31)).toInt32) &&& 1431655765)) &&& 858993459) + ((((i - (((i.toUInt32 >>> ((1 : Int32).toUInt32 &&& Int32.toUInt32 31)).toInt32) &&& 1431655765)).toUInt32 >>> ((2 : Int32).toUInt32 &&& Int32.toUInt32 31)).toInt32) &&& 858993459)) + (((((i - (((i.toUInt32 >>> ((1 : Int32).toUInt32 &&& Int32.toUInt32 31)).toInt32) &&& 1431655765)) &&& 858993459) + ((((i - (((i.toUInt32 >>> ((1 : Int32).toUInt32 &&& Int32.toUInt32 31)).toInt32) &&& 1431655765)).toUInt32 >>> ((2 : Int32).toUInt32 &&& Int32.toUInt32 31)).toInt32) &&& 858993459)).toUInt32 >>> ((4 : Int32).toUInt32 &&& Int32.toUInt32 31)).toInt32)) &&& 252645135).toUInt32 >>> ((8 : Int32).toUInt32 &&& Int32.toUInt32 31)).toInt32)) + ((((((((i - (((i.toUInt32 >>> ((1 : Int32).toUInt32 &&& Int32.toUInt32 31)).toInt32) &&& 1431655765)) &&& 858993459) + ((((i - (((i.toUInt32 >>> ((1 : Int32).toUInt32 &&& Int32.toUInt32 31)).toInt32) &&& 1431655765)).toUInt32 >>> ((2 : Int32).toUInt32 &&& Int32.toUInt32 31)).toInt32) &&& 858993459)) + (((((i - (((i.toUInt32 >>> ((1 : Int32).toUInt32 &&& Int32.toUInt32 31)).toInt32) &&& 1431655765)) &&& 858993459) + ((((i - (((i.toUInt32 >>> ((1 : Int32).toUInt32 &&& Int32.toUInt32 31)).toInt32) &&& 1431655765)).toUInt32 >>> ((2 : Int32).toUInt32 &&& Int32.toUInt32 31)).toInt32) &&& 858993459)).toUInt32 >>> ((4 : Int32).toUInt32 &&& Int32.toUInt32 31)).toInt32)) &&& 252645135) + (((((((i - (((i.toUInt32 >>> ((1 : Int32).toUInt32 &&& Int32.toUInt32 31)).toInt32) &&& 1431655765)) &&& 858993459) + ((((i - (((i.toUInt32 >>> ((1 : Int32).toUInt32 &&& Int32.toUInt32 31)).toInt32) &&& 1431655765)).toUInt32 >>> ((2 : Int32).toUInt32 &&& Int32.toUInt32 31)).toInt32) &&& 858993459)) + (((((i - (((i.toUInt32 >>> ((1 : Int32).toUInt32 &&& Int32.toUInt32 31)).toInt32) &&& 1431655765)) &&& 858993459) + ((((i - (((i.toUInt32 >>> ((1 : Int32).toUInt32 &&& Int32.toUInt32 31)).toInt32) &&& 1431655765)).toUInt32 >>> ((2 : Int32).toUInt32 &&& Int32.toUInt32 31)).toInt32) &&& 858993459)).toUInt32 >>> ((4 : Int32).toUInt32 &&& Int32.toUInt32 31)).toInt32)) &&& 252645135).toUInt32 >>> ((8 : Int32).toUInt32 &&& Int32.toUInt32 31)).toInt32)).toUInt32 >>> ((16 : Int32).toUInt32 &&& Int32.toUInt32 31)).toInt32)) rfl ?_
  refine z_istore_n hX dJ15_bitCount_47 48 rfl (i := 0) rfl (Nat.le_of_ble_eq_true rfl) rfl (L' := [(0, .int (((((((i - (((i.toUInt32 >>> ((1 : Int32).toUInt32 &&& Int32.toUInt32 31)).toInt32) &&& 1431655765)) &&& 858993459) + ((((i - (((i.toUInt32 >>> ((1 : Int32).toUInt32 &&& Int32.toUInt32 31)).toInt32) &&& 1431655765)).toUInt32 >>> ((2 : Int32).toUInt32 &&& Int32.toUInt32 31)).toInt32) &&& 858993459)) + (((((i - (((i.toUInt32 >>> ((1 : Int32).toUInt32 &&& Int32.toUInt32 31)).toInt32) &&& 1431655765)) &&& 858993459) + ((((i - (((i.toUInt32 >>> ((1 : Int32).toUInt32 &&& Int32.toUInt32 31)).toInt32) &&& 1431655765)).toUInt32 >>> ((2 : Int32).toUInt32 &&& Int32.toUInt32 31)).toInt32) &&& 858993459)).toUInt32 >>> ((4 : Int32).toUInt32 &&& Int32.toUInt32 31)).toInt32)) &&& 252645135) + (((((((i - (((i.toUInt32 >>> ((1 : Int32).toUInt32 &&& Int32.toUInt32 31)).toInt32) &&& 1431655765)) &&& 858993459) + ((((i - (((i.toUInt32 >>> ((1 : Int32).toUInt32 &&& Int32.toUInt32 31)).toInt32) &&& 1431655765)).toUInt32 >>> ((2 : Int32).toUInt32 &&& Int32.toUInt32 31)).toInt32) &&& 858993459)) + (((((i - (((i.toUInt32 >>> ((1 : Int32).toUInt32 &&& Int32.toUInt32 31)).toInt32) &&& 1431655765)) &&& 858993459) + ((((i - (((i.toUInt32 >>> ((1 : Int32).toUInt32 &&& Int32.toUInt32 31)).toInt32) &&& 1431655765)).toUInt32 >>> ((2 : Int32).toUInt32 &&& Int32.toUInt32 31)).toInt32) &&& 858993459)).toUInt32 >>> ((4 : Int32).toUInt32 &&& Int32.toUInt32 31)).toInt32)) &&& 252645135).toUInt32 >>> ((8 : Int32).toUInt32 &&& Int32.toUInt32 31)).toInt32)) + ((((((((i - (((i.toUInt32 >>> ((1 : Int32).toUInt32 &&& Int32.toUInt32 31)).toInt32) &&& 1431655765)) &&& 858993459) + ((((i - (((i.toUInt32 >>> ((1 : Int32).toUInt32 &&& Int32.toUInt32 31)).toInt32) &&& 1431655765)).toUInt32 >>> ((2 : Int32).toUInt32 &&& Int32.toUInt32 31)).toInt32) &&& 858993459)) + (((((i - (((i.toUInt32 >>> ((1 : Int32).toUInt32 &&& Int32.toUInt32 31)).toInt32) &&& 1431655765)) &&& 858993459) + ((((i - (((i.toUInt32 >>> ((1 : Int32).toUInt32 &&& Int32.toUInt32 31)).toInt32) &&& 1431655765)).toUInt32 >>> ((2 : Int32).toUInt32 &&& Int32.toUInt32 31)).toInt32) &&& 858993459)).toUInt32 >>> ((4 : Int32).toUInt32 &&& Int32.toUInt32 31)).toInt32)) &&& 252645135) + (((((((i - (((i.toUInt32 >>> ((1 : Int32).toUInt32 &&& Int32.toUInt32 31)).toInt32) &&& 1431655765)) &&& 858993459) + ((((i - (((i.toUInt32 >>> ((1 : Int32).toUInt32 &&& Int32.toUInt32 31)).toInt32) &&& 1431655765)).toUInt32 >>> ((2 : Int32).toUInt32 &&& Int32.toUInt32 31)).toInt32) &&& 858993459)) + (((((i - (((i.toUInt32 >>> ((1 : Int32).toUInt32 &&& Int32.toUInt32 31)).toInt32) &&& 1431655765)) &&& 858993459) + ((((i - (((i.toUInt32 >>> ((1 : Int32).toUInt32 &&& Int32.toUInt32 31)).toInt32) &&& 1431655765)).toUInt32 >>> ((2 : Int32).toUInt32 &&& Int32.toUInt32 31)).toInt32) &&& 858993459)).toUInt32 >>> ((4 : Int32).toUInt32 &&& Int32.toUInt32 31)).toInt32)) &&& 252645135).toUInt32 >>> ((8 : Int32).toUInt32 &&& Int32.toUInt32 31)).toInt32)).toUInt32 >>> ((16 : Int32).toUInt32 &&& Int32.toUInt32 31)).toInt32)))]) rfl ?_
  refine z_iload_n hX dJ15_bitCount_48 49 rfl (i := 0) rfl 0 rfl ?_
  refine z_bipush hX dJ15_bitCount_49 51 rfl zkb_63 ?_
  refine z_iand hX dJ15_bitCount_51 52 rfl (w := (((((((i - (((i.toUInt32 >>> ((1 : Int32).toUInt32 &&& Int32.toUInt32 31)).toInt32) &&& 1431655765)) &&& 858993459) + ((((i - (((i.toUInt32 >>> ((1 : Int32).toUInt32 &&& Int32.toUInt32 31)).toInt32) &&& 1431655765)).toUInt32 >>> ((2 : Int32).toUInt32 &&& Int32.toUInt32 31)).toInt32) &&& 858993459)) + (((((i - (((i.toUInt32 >>> ((1 : Int32).toUInt32 &&& Int32.toUInt32 31)).toInt32) &&& 1431655765)) &&& 858993459) + ((((i - (((i.toUInt32 >>> ((1 : Int32).toUInt32 &&& Int32.toUInt32 31)).toInt32) &&& 1431655765)).toUInt32 >>> ((2 : Int32).toUInt32 &&& Int32.toUInt32 31)).toInt32) &&& 858993459)).toUInt32 >>> ((4 : Int32).toUInt32 &&& Int32.toUInt32 31)).toInt32)) &&& 252645135) + (((((((i - (((i.toUInt32 >>> ((1 : Int32).toUInt32 &&& Int32.toUInt32 31)).toInt32) &&& 1431655765)) &&& 858993459) + ((((i - (((i.toUInt32 >>> ((1 : Int32).toUInt32 &&& Int32.toUInt32 31)).toInt32) &&& 1431655765)).toUInt32 >>> ((2 : Int32).toUInt32 &&& Int32.toUInt32 31)).toInt32) &&& 858993459)) + (((((i - (((i.toUInt32 >>> ((1 : Int32).toUInt32 &&& Int32.toUInt32 31)).toInt32) &&& 1431655765)) &&& 858993459) + ((((i - (((i.toUInt32 >>> ((1 : Int32).toUInt32 &&& Int32.toUInt32 31)).toInt32) &&& 1431655765)).toUInt32 >>> ((2 : Int32).toUInt32 &&& Int32.toUInt32 31)).toInt32) &&& 858993459)).toUInt32 >>> ((4 : Int32).toUInt32 &&& Int32.toUInt32 31)).toInt32)) &&& 252645135).toUInt32 >>> ((8 : Int32).toUInt32 &&& Int32.toUInt32 31)).toInt32)) + ((((((((i - (((i.toUInt32 >>> ((1 : Int32).toUInt32 &&& Int32.toUInt32 31)).toInt32) &&& 1431655765)) &&& 858993459) + ((((i - (((i.toUInt32 >>> ((1 : Int32).toUInt32 &&& Int32.toUInt32 31)).toInt32) &&& 1431655765)).toUInt32 >>> ((2 : Int32).toUInt32 &&& Int32.toUInt32 31)).toInt32) &&& 858993459)) + (((((i - (((i.toUInt32 >>> ((1 : Int32).toUInt32 &&& Int32.toUInt32 31)).toInt32) &&& 1431655765)) &&& 858993459) + ((((i - (((i.toUInt32 >>> ((1 : Int32).toUInt32 &&& Int32.toUInt32 31)).toInt32) &&& 1431655765)).toUInt32 >>> ((2 : Int32).toUInt32 &&& Int32.toUInt32 31)).toInt32) &&& 858993459)).toUInt32 >>> ((4 : Int32).toUInt32 &&& Int32.toUInt32 31)).toInt32)) &&& 252645135) + (((((((i - (((i.toUInt32 >>> ((1 : Int32).toUInt32 &&& Int32.toUInt32 31)).toInt32) &&& 1431655765)) &&& 858993459) + ((((i - (((i.toUInt32 >>> ((1 : Int32).toUInt32 &&& Int32.toUInt32 31)).toInt32) &&& 1431655765)).toUInt32 >>> ((2 : Int32).toUInt32 &&& Int32.toUInt32 31)).toInt32) &&& 858993459)) + (((((i - (((i.toUInt32 >>> ((1 : Int32).toUInt32 &&& Int32.toUInt32 31)).toInt32) &&& 1431655765)) &&& 858993459) + ((((i - (((i.toUInt32 >>> ((1 : Int32).toUInt32 &&& Int32.toUInt32 31)).toInt32) &&& 1431655765)).toUInt32 >>> ((2 : Int32).toUInt32 &&& Int32.toUInt32 31)).toInt32) &&& 858993459)).toUInt32 >>> ((4 : Int32).toUInt32 &&& Int32.toUInt32 31)).toInt32)) &&& 252645135).toUInt32 >>> ((8 : Int32).toUInt32 &&& Int32.toUInt32 31)).toInt32)).toUInt32 >>> ((16 : Int32).toUInt32 &&& Int32.toUInt32 31)).toInt32)) &&& 63) rfl ?_
  exact z_iret hX hQ (Nat.zero_le _) (Nat.zero_le _) rfl dJ15_bitCount_52 ⟨rfl, rfl⟩
def x1_tells (N : Nat → Int32) (tk : Nat → Int32) (sh : Nat → Int32) (s_sold : Nat → Int32) (s_fallen : Int32) (A : Nat) (K : Nat → Nat) (what : Int32) : Int32 := (if what = 0 then (if zin 0 A then s_sold 0 else (-1) : Int32) else (if what = 1 then (if zin 1 A then s_sold 1 else (-1) : Int32) else (if what = 2 then (if zin 2 A then s_sold 2 else (-1) : Int32) else (if what = 3 then (if zin 3 A then s_sold 3 else (-1) : Int32) else (if what = 4 then s_fallen else (if what = 5 then x1_lost N tk sh s_sold A K else (if what = 6 then x15_bitCount s_fallen else (if what = 7 then x1_soldAll s_sold else (-1) : Int32) : Int32) : Int32) : Int32) : Int32) : Int32) : Int32) : Int32)
set_option maxHeartbeats 4000000 in
theorem met_X1_tells {g : Zg} (hG : zG g) {G : zHG} {q t : Nat} {B : Nat → Nat → Nat} {N tk cp sh pr : Nat → Int32} {fc gn : Int32} {ks : Nat × Nat} {s : Nat} {bs : Nat} {s_sold : Nat → Int32} {s_fallen : Int32} (ht : zTo g G q t B N tk cp sh pr fc gn) (hs : zSt g G ks s bs s_sold s_fallen) {A H : Nat} {K : Nat → Nat} (hN : zWf N A H K) (what : Int32)  : ZM g yX1_tells cX1_tells 3 (some FieldType.int) 6 0 0 [.ref t, .ref s, .int what] G (zRet (some (.int (x1_tells N tk sh s_sold s_fallen A K what))) G) := by
  unfold x1_tells
  have hN2 := hN.2.1
  have hN4 := hN.2.2.2.1
  refine ZM_mk hG (by decide) (Nat.le_of_ble_eq_true rfl) ?_
  intro X hX hname hQ
  show ZW g X 0 0 G 0 [(0, .ref t), (1, .ref s), (2, .int what)] []
  refine z_iload_n hX dX1_tells_0 1 rfl (i := 2) rfl 2 rfl ?_
  by_cases s1 : what = 0
  ·
    refine z_eqL (L' := [(0, .ref t), (1, .ref s), (2, .int 0)]) (st' := [.int 0]) (by rw [s1]) (by rw [s1]) ?_
    refine z_tableIn hX dX1_tells_1 (off := 47) (tgt := 48) (by decide) (by decide) (by decide) (by decide) ?_
    refine z_aload_n hX dX1_tells_48 49 rfl (i := 0) rfl 0 rfl ?_
    refine z_iload_n hX dX1_tells_49 50 rfl (i := 2) rfl 2 rfl ?_
    refine z_callVp hX cwX1_204 (w := .int (if zin 0 A then 1 else 0 : Int32)) (met_X1_isAsset hG ht hN 0) ht.o rfl rfl dX1_tells_50 53 rfl rfl rfl (Nat.le_of_ble_eq_true rfl) (by decide) ⟨Nat.zero_le _, Nat.zero_le _⟩ ?_
    have J3 : ZW g X 0 0 G 66 [(0, .ref t), (1, .ref s), (2, .int 0)] [.int (if zin 0 A then s_sold 0 else (-1) : Int32)] := by
      exact z_iret hX hQ (Nat.zero_le _) (Nat.zero_le _) rfl dX1_tells_66 ⟨(by first | (simp only [if_pos s1] <;> rfl; done) | grind), rfl⟩
    refine z_if_eqP hX (zin 0 A) dX1_tells_53 56 rfl (tgt := 65) (by decide) (fun c2 => ?_) (fun c2 => ?_)
    ·
      refine z_iconst hX dX1_tells_65 66 rfl zki_m1 ?_
      exact z_eqL rfl (by first | (simp only [if_pos s1, if_neg c2] <;> rfl; done) | grind) J3
    ·
      have e_0 := zin_eq c2
      have l_0 := zin_lt c2
      refine z_aload_n hX dX1_tells_56 57 rfl (i := 1) rfl 1 rfl ?_
      refine z_getfN hX fX1_124 hs.o dX1_tells_57 60 rfl (x := .ref bs) rfl ?_
      refine z_iload_n hX dX1_tells_60 61 rfl (i := 2) rfl 2 rfl ?_
      refine z_ialdF hX hs.2 (j := 0) (by omega) (by decide) dX1_tells_61 62 rfl (w := s_sold 0) rfl ?_
      refine z_goto hX dX1_tells_62 (tgt := 66) (by decide) ?_
      exact z_eqL rfl (by first | (simp only [if_pos s1, if_pos c2] <;> rfl; done) | grind) J3
  by_cases s4 : what = 1
  ·
    refine z_eqL (L' := [(0, .ref t), (1, .ref s), (2, .int 1)]) (st' := [.int 1]) (by rw [s4]) (by rw [s4]) ?_
    refine z_tableIn hX dX1_tells_1 (off := 47) (tgt := 48) (by decide) (by decide) (by decide) (by decide) ?_
    refine z_aload_n hX dX1_tells_48 49 rfl (i := 0) rfl 0 rfl ?_
    refine z_iload_n hX dX1_tells_49 50 rfl (i := 2) rfl 2 rfl ?_
    refine z_callVp hX cwX1_204 (w := .int (if zin 1 A then 1 else 0 : Int32)) (met_X1_isAsset hG ht hN 1) ht.o rfl rfl dX1_tells_50 53 rfl rfl rfl (Nat.le_of_ble_eq_true rfl) (by decide) ⟨Nat.zero_le _, Nat.zero_le _⟩ ?_
    have J6 : ZW g X 0 0 G 66 [(0, .ref t), (1, .ref s), (2, .int 1)] [.int (if zin 1 A then s_sold 1 else (-1) : Int32)] := by
      exact z_iret hX hQ (Nat.zero_le _) (Nat.zero_le _) rfl dX1_tells_66 ⟨(by first | (simp only [if_neg s1, if_pos s4] <;> rfl; done) | grind), rfl⟩
    refine z_if_eqP hX (zin 1 A) dX1_tells_53 56 rfl (tgt := 65) (by decide) (fun c5 => ?_) (fun c5 => ?_)
    ·
      refine z_iconst hX dX1_tells_65 66 rfl zki_m1 ?_
      exact z_eqL rfl (by first | (simp only [if_neg s1, if_pos s4, if_neg c5] <;> rfl; done) | grind) J6
    ·
      have e_1 := zin_eq c5
      have l_1 := zin_lt c5
      refine z_aload_n hX dX1_tells_56 57 rfl (i := 1) rfl 1 rfl ?_
      refine z_getfN hX fX1_124 hs.o dX1_tells_57 60 rfl (x := .ref bs) rfl ?_
      refine z_iload_n hX dX1_tells_60 61 rfl (i := 2) rfl 2 rfl ?_
      refine z_ialdF hX hs.2 (j := 1) (by omega) (by decide) dX1_tells_61 62 rfl (w := s_sold 1) rfl ?_
      refine z_goto hX dX1_tells_62 (tgt := 66) (by decide) ?_
      exact z_eqL rfl (by first | (simp only [if_neg s1, if_pos s4, if_pos c5] <;> rfl; done) | grind) J6
  by_cases s7 : what = 2
  ·
    refine z_eqL (L' := [(0, .ref t), (1, .ref s), (2, .int 2)]) (st' := [.int 2]) (by rw [s7]) (by rw [s7]) ?_
    refine z_tableIn hX dX1_tells_1 (off := 47) (tgt := 48) (by decide) (by decide) (by decide) (by decide) ?_
    refine z_aload_n hX dX1_tells_48 49 rfl (i := 0) rfl 0 rfl ?_
    refine z_iload_n hX dX1_tells_49 50 rfl (i := 2) rfl 2 rfl ?_
    refine z_callVp hX cwX1_204 (w := .int (if zin 2 A then 1 else 0 : Int32)) (met_X1_isAsset hG ht hN 2) ht.o rfl rfl dX1_tells_50 53 rfl rfl rfl (Nat.le_of_ble_eq_true rfl) (by decide) ⟨Nat.zero_le _, Nat.zero_le _⟩ ?_
    have J9 : ZW g X 0 0 G 66 [(0, .ref t), (1, .ref s), (2, .int 2)] [.int (if zin 2 A then s_sold 2 else (-1) : Int32)] := by
      exact z_iret hX hQ (Nat.zero_le _) (Nat.zero_le _) rfl dX1_tells_66 ⟨(by first | (simp only [if_neg s1, if_neg s4, if_pos s7] <;> rfl; done) | grind), rfl⟩
    refine z_if_eqP hX (zin 2 A) dX1_tells_53 56 rfl (tgt := 65) (by decide) (fun c8 => ?_) (fun c8 => ?_)
    ·
      refine z_iconst hX dX1_tells_65 66 rfl zki_m1 ?_
      exact z_eqL rfl (by first | (simp only [if_neg s1, if_neg s4, if_pos s7, if_neg c8] <;> rfl; done) | grind) J9
    ·
      have e_2 := zin_eq c8
      have l_2 := zin_lt c8
      refine z_aload_n hX dX1_tells_56 57 rfl (i := 1) rfl 1 rfl ?_
      refine z_getfN hX fX1_124 hs.o dX1_tells_57 60 rfl (x := .ref bs) rfl ?_
      refine z_iload_n hX dX1_tells_60 61 rfl (i := 2) rfl 2 rfl ?_
      refine z_ialdF hX hs.2 (j := 2) (by omega) (by decide) dX1_tells_61 62 rfl (w := s_sold 2) rfl ?_
      refine z_goto hX dX1_tells_62 (tgt := 66) (by decide) ?_
      exact z_eqL rfl (by first | (simp only [if_neg s1, if_neg s4, if_pos s7, if_pos c8] <;> rfl; done) | grind) J9
  by_cases s10 : what = 3
  ·
    refine z_eqL (L' := [(0, .ref t), (1, .ref s), (2, .int 3)]) (st' := [.int 3]) (by rw [s10]) (by rw [s10]) ?_
    refine z_tableIn hX dX1_tells_1 (off := 47) (tgt := 48) (by decide) (by decide) (by decide) (by decide) ?_
    refine z_aload_n hX dX1_tells_48 49 rfl (i := 0) rfl 0 rfl ?_
    refine z_iload_n hX dX1_tells_49 50 rfl (i := 2) rfl 2 rfl ?_
    refine z_callVp hX cwX1_204 (w := .int (if zin 3 A then 1 else 0 : Int32)) (met_X1_isAsset hG ht hN 3) ht.o rfl rfl dX1_tells_50 53 rfl rfl rfl (Nat.le_of_ble_eq_true rfl) (by decide) ⟨Nat.zero_le _, Nat.zero_le _⟩ ?_
    have J12 : ZW g X 0 0 G 66 [(0, .ref t), (1, .ref s), (2, .int 3)] [.int (if zin 3 A then s_sold 3 else (-1) : Int32)] := by
      exact z_iret hX hQ (Nat.zero_le _) (Nat.zero_le _) rfl dX1_tells_66 ⟨(by first | (simp only [if_neg s1, if_neg s4, if_neg s7, if_pos s10] <;> rfl; done) | grind), rfl⟩
    refine z_if_eqP hX (zin 3 A) dX1_tells_53 56 rfl (tgt := 65) (by decide) (fun c11 => ?_) (fun c11 => ?_)
    ·
      refine z_iconst hX dX1_tells_65 66 rfl zki_m1 ?_
      exact z_eqL rfl (by first | (simp only [if_neg s1, if_neg s4, if_neg s7, if_pos s10, if_neg c11] <;> rfl; done) | grind) J12
    ·
      have e_3 := zin_eq c11
      have l_3 := zin_lt c11
      refine z_aload_n hX dX1_tells_56 57 rfl (i := 1) rfl 1 rfl ?_
      refine z_getfN hX fX1_124 hs.o dX1_tells_57 60 rfl (x := .ref bs) rfl ?_
      refine z_iload_n hX dX1_tells_60 61 rfl (i := 2) rfl 2 rfl ?_
      refine z_ialdF hX hs.2 (j := 3) (by omega) (by decide) dX1_tells_61 62 rfl (w := s_sold 3) rfl ?_
      refine z_goto hX dX1_tells_62 (tgt := 66) (by decide) ?_
      exact z_eqL rfl (by first | (simp only [if_neg s1, if_neg s4, if_neg s7, if_pos s10, if_pos c11] <;> rfl; done) | grind) J12
  by_cases s13 : what = 4
  ·
    refine z_eqL (L' := [(0, .ref t), (1, .ref s), (2, .int 4)]) (st' := [.int 4]) (by rw [s13]) (by rw [s13]) ?_
    refine z_tableIn hX dX1_tells_1 (off := 66) (tgt := 67) (by decide) (by decide) (by decide) (by decide) ?_
    refine z_aload_n hX dX1_tells_67 68 rfl (i := 1) rfl 1 rfl ?_
    refine z_getfN hX fX1_121 hs.o dX1_tells_68 71 rfl (x := .int s_fallen) rfl ?_
    exact z_iret hX hQ (Nat.zero_le _) (Nat.zero_le _) rfl dX1_tells_71 ⟨(by first | (simp only [if_neg s1, if_neg s4, if_neg s7, if_neg s10, if_pos s13] <;> rfl; done) | grind), rfl⟩
  by_cases s14 : what = 5
  ·
    refine z_eqL (L' := [(0, .ref t), (1, .ref s), (2, .int 5)]) (st' := [.int 5]) (by rw [s14]) (by rw [s14]) ?_
    refine z_tableIn hX dX1_tells_1 (off := 71) (tgt := 72) (by decide) (by decide) (by decide) (by decide) ?_
    refine z_aload_n hX dX1_tells_72 73 rfl (i := 0) rfl 0 rfl ?_
    refine z_aload_n hX dX1_tells_73 74 rfl (i := 1) rfl 1 rfl ?_
    refine z_callVp hX cwX1_208 (w := .int (x1_lost N tk sh s_sold A K)) (met_X1_lost hG ht hs hN) ht.o rfl rfl dX1_tells_74 77 rfl rfl rfl (Nat.le_of_ble_eq_true rfl) (by decide) ⟨Nat.zero_le _, Nat.zero_le _⟩ ?_
    exact z_iret hX hQ (Nat.zero_le _) (Nat.zero_le _) rfl dX1_tells_77 ⟨(by first | (simp only [if_neg s1, if_neg s4, if_neg s7, if_neg s10, if_neg s13, if_pos s14] <;> rfl; done) | grind), rfl⟩
  by_cases s15 : what = 6
  ·
    refine z_eqL (L' := [(0, .ref t), (1, .ref s), (2, .int 6)]) (st' := [.int 6]) (by rw [s15]) (by rw [s15]) ?_
    refine z_tableIn hX dX1_tells_1 (off := 77) (tgt := 78) (by decide) (by decide) (by decide) (by decide) ?_
    refine z_aload_n hX dX1_tells_78 79 rfl (i := 1) rfl 1 rfl ?_
    refine z_getfN hX fX1_121 hs.o dX1_tells_79 82 rfl (x := .int s_fallen) rfl ?_
    refine z_callSp hX cwX1_212 (w := .int (x15_bitCount s_fallen)) (met_J15_bitCount hG s_fallen) dX1_tells_82 85 rfl rfl rfl (Nat.le_of_ble_eq_true rfl) (by decide) ⟨Nat.zero_le _, Nat.zero_le _⟩ ?_
    exact z_iret hX hQ (Nat.zero_le _) (Nat.zero_le _) rfl dX1_tells_85 ⟨(by first | (simp only [if_neg s1, if_neg s4, if_neg s7, if_neg s10, if_neg s13, if_neg s14, if_pos s15] <;> rfl; done) | grind), rfl⟩
  by_cases s16 : what = 7
  ·
    refine z_eqL (L' := [(0, .ref t), (1, .ref s), (2, .int 7)]) (st' := [.int 7]) (by rw [s16]) (by rw [s16]) ?_
    refine z_tableIn hX dX1_tells_1 (off := 85) (tgt := 86) (by decide) (by decide) (by decide) (by decide) ?_
    refine z_aload_n hX dX1_tells_86 87 rfl (i := 0) rfl 0 rfl ?_
    refine z_aload_n hX dX1_tells_87 88 rfl (i := 1) rfl 1 rfl ?_
    refine z_callVp hX cwX1_217 (w := .int (x1_soldAll s_sold)) (met_X1_soldAll hG ht hs) ht.o rfl rfl dX1_tells_88 91 rfl rfl rfl (Nat.le_of_ble_eq_true rfl) (by decide) ⟨Nat.zero_le _, Nat.zero_le _⟩ ?_
    exact z_iret hX hQ (Nat.zero_le _) (Nat.zero_le _) rfl dX1_tells_91 ⟨(by first | (simp only [if_neg s1, if_neg s4, if_neg s7, if_neg s10, if_neg s13, if_neg s14, if_neg s15, if_pos s16] <;> rfl; done) | grind), rfl⟩
  have ts1 : ¬ (what).toInt = 0 := fun e => s1 (Int32.toInt_inj.mp (e.trans (by decide)))
  have ts4 : ¬ (what).toInt = 1 := fun e => s4 (Int32.toInt_inj.mp (e.trans (by decide)))
  have ts7 : ¬ (what).toInt = 2 := fun e => s7 (Int32.toInt_inj.mp (e.trans (by decide)))
  have ts10 : ¬ (what).toInt = 3 := fun e => s10 (Int32.toInt_inj.mp (e.trans (by decide)))
  have ts13 : ¬ (what).toInt = 4 := fun e => s13 (Int32.toInt_inj.mp (e.trans (by decide)))
  have ts14 : ¬ (what).toInt = 5 := fun e => s14 (Int32.toInt_inj.mp (e.trans (by decide)))
  have ts15 : ¬ (what).toInt = 6 := fun e => s15 (Int32.toInt_inj.mp (e.trans (by decide)))
  have ts16 : ¬ (what).toInt = 7 := fun e => s16 (Int32.toInt_inj.mp (e.trans (by decide)))
  refine z_tableOut hX dX1_tells_1 (by omega) (tgt := 92) (by decide) ?_
  refine z_iconst hX dX1_tells_92 93 rfl zki_m1 ?_
  exact z_iret hX hQ (Nat.zero_le _) (Nat.zero_le _) rfl dX1_tells_93 ⟨(by first | (simp only [if_neg s1, if_neg s4, if_neg s7, if_neg s10, if_neg s13, if_neg s14, if_neg s15, if_neg s16] <;> rfl; done) | grind), rfl⟩
