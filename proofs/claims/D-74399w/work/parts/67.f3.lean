set_option maxRecDepth 100000
def dkwJ9_copyOf_0 : List UInt8 := [42, 27, 42, 182, 0, 86, 184, 1, 44, 176]
abbrev dktJ9_copyOf_0 : List UInt8 := dkwJ9_copyOf_0 ++ []
theorem dksJ9_copyOf_0 : cJ9_copyOf.data.toList.drop 0 = dktJ9_copyOf_0 := by decide +kernel
theorem dJ9_copyOf_0 : decode cJ9_copyOf 0 = .ok (.aload_n 0, 1) := dk_42 (dk_at dksJ9_copyOf_0 0 rfl rfl)
theorem dJ9_copyOf_1 : decode cJ9_copyOf 1 = .ok (.iload_n 1, 1) := dk_27 (dk_at dksJ9_copyOf_0 1 rfl rfl)
theorem dJ9_copyOf_2 : decode cJ9_copyOf 2 = .ok (.aload_n 0, 1) := dk_42 (dk_at dksJ9_copyOf_0 2 rfl rfl)
theorem dJ9_copyOf_3 : decode cJ9_copyOf 3 = .ok (.invokevirtual 86, 3) := dk_182 0 86 (dk_at dksJ9_copyOf_0 3 rfl rfl)
theorem dJ9_copyOf_6 : decode cJ9_copyOf 6 = .ok (.invokestatic 300, 3) := dk_184 1 44 (dk_at dksJ9_copyOf_0 6 rfl rfl)
theorem dJ9_copyOf_9 : decode cJ9_copyOf 9 = .ok (.areturn, 1) := dk_176 (dk_at dksJ9_copyOf_0 9 rfl rfl)
def dkwJ9_copyOf_2_1 : List UInt8 := [78, 42, 3, 45, 3, 42, 190, 27, 184, 1, 48, 184, 0, 150, 45, 176]
abbrev dktJ9_copyOf_2_1 : List UInt8 := dkwJ9_copyOf_2_1 ++ []
def dkwJ9_copyOf_2_0 : List UInt8 := [44, 18, 110, 166, 0, 10, 27, 189, 0, 2, 167, 0, 14, 44, 182, 0, 90, 27, 184, 0, 95, 192, 0, 110]
abbrev dktJ9_copyOf_2_0 : List UInt8 := dkwJ9_copyOf_2_0 ++ dktJ9_copyOf_2_1
theorem dksJ9_copyOf_2_0 : cJ9_copyOf_2.data.toList.drop 0 = dktJ9_copyOf_2_0 := by decide +kernel
theorem dksJ9_copyOf_2_1 : cJ9_copyOf_2.data.toList.drop 24 = dktJ9_copyOf_2_1 := dk_seg dksJ9_copyOf_2_0 24 rfl rfl
theorem dJ9_copyOf_2_0 : decode cJ9_copyOf_2 0 = .ok (.aload_n 2, 1) := dk_44 (dk_at dksJ9_copyOf_2_0 0 rfl rfl)
theorem dJ9_copyOf_2_1 : decode cJ9_copyOf_2 1 = .ok (.ldc 110, 2) := dk_18 110 (dk_at dksJ9_copyOf_2_0 1 rfl rfl)
theorem dJ9_copyOf_2_3 : decode cJ9_copyOf_2 3 = .ok (.if_acmp .ne 10, 3) := dk_166 0 10 (dk_at dksJ9_copyOf_2_0 3 rfl rfl)
theorem dJ9_copyOf_2_6 : decode cJ9_copyOf_2 6 = .ok (.iload_n 1, 1) := dk_27 (dk_at dksJ9_copyOf_2_0 6 rfl rfl)
theorem dJ9_copyOf_2_7 : decode cJ9_copyOf_2 7 = .ok (.anewarray 2, 3) := dk_189 0 2 (dk_at dksJ9_copyOf_2_0 7 rfl rfl)
theorem dJ9_copyOf_2_10 : decode cJ9_copyOf_2 10 = .ok (.goto 14, 3) := dk_167 0 14 (dk_at dksJ9_copyOf_2_0 10 rfl rfl)
theorem dJ9_copyOf_2_13 : decode cJ9_copyOf_2 13 = .ok (.aload_n 2, 1) := dk_44 (dk_at dksJ9_copyOf_2_0 13 rfl rfl)
theorem dJ9_copyOf_2_14 : decode cJ9_copyOf_2 14 = .ok (.invokevirtual 90, 3) := dk_182 0 90 (dk_at dksJ9_copyOf_2_0 14 rfl rfl)
theorem dJ9_copyOf_2_17 : decode cJ9_copyOf_2 17 = .ok (.iload_n 1, 1) := dk_27 (dk_at dksJ9_copyOf_2_0 17 rfl rfl)
theorem dJ9_copyOf_2_18 : decode cJ9_copyOf_2 18 = .ok (.invokestatic 95, 3) := dk_184 0 95 (dk_at dksJ9_copyOf_2_0 18 rfl rfl)
theorem dJ9_copyOf_2_21 : decode cJ9_copyOf_2 21 = .ok (.checkcast 110, 3) := dk_192 0 110 (dk_at dksJ9_copyOf_2_0 21 rfl rfl)
theorem dJ9_copyOf_2_24 : decode cJ9_copyOf_2 24 = .ok (.astore_n 3, 1) := dk_78 (dk_at dksJ9_copyOf_2_1 0 rfl rfl)
theorem dJ9_copyOf_2_25 : decode cJ9_copyOf_2 25 = .ok (.aload_n 0, 1) := dk_42 (dk_at dksJ9_copyOf_2_1 1 rfl rfl)
theorem dJ9_copyOf_2_26 : decode cJ9_copyOf_2 26 = .ok (.iconst 0, 1) := dk_3 (dk_at dksJ9_copyOf_2_1 2 rfl rfl)
theorem dJ9_copyOf_2_27 : decode cJ9_copyOf_2 27 = .ok (.aload_n 3, 1) := dk_45 (dk_at dksJ9_copyOf_2_1 3 rfl rfl)
theorem dJ9_copyOf_2_28 : decode cJ9_copyOf_2 28 = .ok (.iconst 0, 1) := dk_3 (dk_at dksJ9_copyOf_2_1 4 rfl rfl)
theorem dJ9_copyOf_2_29 : decode cJ9_copyOf_2 29 = .ok (.aload_n 0, 1) := dk_42 (dk_at dksJ9_copyOf_2_1 5 rfl rfl)
theorem dJ9_copyOf_2_30 : decode cJ9_copyOf_2 30 = .ok (.arraylength, 1) := dk_190 (dk_at dksJ9_copyOf_2_1 6 rfl rfl)
theorem dJ9_copyOf_2_31 : decode cJ9_copyOf_2 31 = .ok (.iload_n 1, 1) := dk_27 (dk_at dksJ9_copyOf_2_1 7 rfl rfl)
theorem dJ9_copyOf_2_32 : decode cJ9_copyOf_2 32 = .ok (.invokestatic 304, 3) := dk_184 1 48 (dk_at dksJ9_copyOf_2_1 8 rfl rfl)
theorem dJ9_copyOf_2_35 : decode cJ9_copyOf_2 35 = .ok (.invokestatic 150, 3) := dk_184 0 150 (dk_at dksJ9_copyOf_2_1 11 rfl rfl)
theorem dJ9_copyOf_2_38 : decode cJ9_copyOf_2 38 = .ok (.aload_n 3, 1) := dk_45 (dk_at dksJ9_copyOf_2_1 14 rfl rfl)
theorem dJ9_copyOf_2_39 : decode cJ9_copyOf_2 39 = .ok (.areturn, 1) := dk_176 (dk_at dksJ9_copyOf_2_1 15 rfl rfl)
def dkwJ9_fill_0 : List UInt8 := [3, 61, 42, 190, 62, 28, 29, 162, 0, 13, 42, 28, 27, 79, 132, 2, 1, 167, 255, 244, 177]
abbrev dktJ9_fill_0 : List UInt8 := dkwJ9_fill_0 ++ []
theorem dksJ9_fill_0 : cJ9_fill.data.toList.drop 0 = dktJ9_fill_0 := by decide +kernel
theorem dJ9_fill_0 : decode cJ9_fill 0 = .ok (.iconst 0, 1) := dk_3 (dk_at dksJ9_fill_0 0 rfl rfl)
theorem dJ9_fill_1 : decode cJ9_fill 1 = .ok (.istore_n 2, 1) := dk_61 (dk_at dksJ9_fill_0 1 rfl rfl)
theorem dJ9_fill_2 : decode cJ9_fill 2 = .ok (.aload_n 0, 1) := dk_42 (dk_at dksJ9_fill_0 2 rfl rfl)
theorem dJ9_fill_3 : decode cJ9_fill 3 = .ok (.arraylength, 1) := dk_190 (dk_at dksJ9_fill_0 3 rfl rfl)
theorem dJ9_fill_4 : decode cJ9_fill 4 = .ok (.istore_n 3, 1) := dk_62 (dk_at dksJ9_fill_0 4 rfl rfl)
theorem dJ9_fill_5 : decode cJ9_fill 5 = .ok (.iload_n 2, 1) := dk_28 (dk_at dksJ9_fill_0 5 rfl rfl)
theorem dJ9_fill_6 : decode cJ9_fill 6 = .ok (.iload_n 3, 1) := dk_29 (dk_at dksJ9_fill_0 6 rfl rfl)
theorem dJ9_fill_7 : decode cJ9_fill 7 = .ok (.if_icmp .ge 13, 3) := dk_162 0 13 (dk_at dksJ9_fill_0 7 rfl rfl)
theorem dJ9_fill_10 : decode cJ9_fill 10 = .ok (.aload_n 0, 1) := dk_42 (dk_at dksJ9_fill_0 10 rfl rfl)
theorem dJ9_fill_11 : decode cJ9_fill 11 = .ok (.iload_n 2, 1) := dk_28 (dk_at dksJ9_fill_0 11 rfl rfl)
theorem dJ9_fill_12 : decode cJ9_fill 12 = .ok (.iload_n 1, 1) := dk_27 (dk_at dksJ9_fill_0 12 rfl rfl)
theorem dJ9_fill_13 : decode cJ9_fill 13 = .ok (.iastore, 1) := dk_79 (dk_at dksJ9_fill_0 13 rfl rfl)
theorem dJ9_fill_14 : decode cJ9_fill 14 = .ok (.iinc 2 1, 3) := dk_132 2 1 (dk_at dksJ9_fill_0 14 rfl rfl)
theorem dJ9_fill_17 : decode cJ9_fill 17 = .ok (.goto (-12), 3) := dk_167 255 244 (dk_at dksJ9_fill_0 17 rfl rfl)
theorem dJ9_fill_20 : decode cJ9_fill 20 = .ok (.return_, 1) := dk_177 (dk_at dksJ9_fill_0 20 rfl rfl)
def dkwJ9_equals_1 : List UInt8 := [159, 0, 5, 3, 172, 42, 43, 28, 184, 0, 254, 156, 0, 7, 4, 167, 0, 4, 3, 172]
abbrev dktJ9_equals_1 : List UInt8 := dkwJ9_equals_1 ++ []
def dkwJ9_equals_0 : List UInt8 := [42, 43, 166, 0, 5, 4, 172, 42, 198, 0, 7, 43, 199, 0, 5, 3, 172, 42, 190, 61, 43, 190, 28]
abbrev dktJ9_equals_0 : List UInt8 := dkwJ9_equals_0 ++ dktJ9_equals_1
theorem dksJ9_equals_0 : cJ9_equals.data.toList.drop 0 = dktJ9_equals_0 := by decide +kernel
theorem dksJ9_equals_1 : cJ9_equals.data.toList.drop 23 = dktJ9_equals_1 := dk_seg dksJ9_equals_0 23 rfl rfl
theorem dJ9_equals_0 : decode cJ9_equals 0 = .ok (.aload_n 0, 1) := dk_42 (dk_at dksJ9_equals_0 0 rfl rfl)
theorem dJ9_equals_1 : decode cJ9_equals 1 = .ok (.aload_n 1, 1) := dk_43 (dk_at dksJ9_equals_0 1 rfl rfl)
theorem dJ9_equals_2 : decode cJ9_equals 2 = .ok (.if_acmp .ne 5, 3) := dk_166 0 5 (dk_at dksJ9_equals_0 2 rfl rfl)
theorem dJ9_equals_5 : decode cJ9_equals 5 = .ok (.iconst 1, 1) := dk_4 (dk_at dksJ9_equals_0 5 rfl rfl)
theorem dJ9_equals_6 : decode cJ9_equals 6 = .ok (.ireturn, 1) := dk_172 (dk_at dksJ9_equals_0 6 rfl rfl)
theorem dJ9_equals_7 : decode cJ9_equals 7 = .ok (.aload_n 0, 1) := dk_42 (dk_at dksJ9_equals_0 7 rfl rfl)
theorem dJ9_equals_8 : decode cJ9_equals 8 = .ok (.ifnull 7, 3) := dk_198 0 7 (dk_at dksJ9_equals_0 8 rfl rfl)
theorem dJ9_equals_11 : decode cJ9_equals 11 = .ok (.aload_n 1, 1) := dk_43 (dk_at dksJ9_equals_0 11 rfl rfl)
theorem dJ9_equals_12 : decode cJ9_equals 12 = .ok (.ifnonnull 5, 3) := dk_199 0 5 (dk_at dksJ9_equals_0 12 rfl rfl)
theorem dJ9_equals_15 : decode cJ9_equals 15 = .ok (.iconst 0, 1) := dk_3 (dk_at dksJ9_equals_0 15 rfl rfl)
theorem dJ9_equals_16 : decode cJ9_equals 16 = .ok (.ireturn, 1) := dk_172 (dk_at dksJ9_equals_0 16 rfl rfl)
theorem dJ9_equals_17 : decode cJ9_equals 17 = .ok (.aload_n 0, 1) := dk_42 (dk_at dksJ9_equals_0 17 rfl rfl)
theorem dJ9_equals_18 : decode cJ9_equals 18 = .ok (.arraylength, 1) := dk_190 (dk_at dksJ9_equals_0 18 rfl rfl)
theorem dJ9_equals_19 : decode cJ9_equals 19 = .ok (.istore_n 2, 1) := dk_61 (dk_at dksJ9_equals_0 19 rfl rfl)
theorem dJ9_equals_20 : decode cJ9_equals 20 = .ok (.aload_n 1, 1) := dk_43 (dk_at dksJ9_equals_0 20 rfl rfl)
theorem dJ9_equals_21 : decode cJ9_equals 21 = .ok (.arraylength, 1) := dk_190 (dk_at dksJ9_equals_0 21 rfl rfl)
theorem dJ9_equals_22 : decode cJ9_equals 22 = .ok (.iload_n 2, 1) := dk_28 (dk_at dksJ9_equals_0 22 rfl rfl)
theorem dJ9_equals_23 : decode cJ9_equals 23 = .ok (.if_icmp .eq 5, 3) := dk_159 0 5 (dk_at dksJ9_equals_1 0 rfl rfl)
theorem dJ9_equals_26 : decode cJ9_equals 26 = .ok (.iconst 0, 1) := dk_3 (dk_at dksJ9_equals_1 3 rfl rfl)
theorem dJ9_equals_27 : decode cJ9_equals 27 = .ok (.ireturn, 1) := dk_172 (dk_at dksJ9_equals_1 4 rfl rfl)
theorem dJ9_equals_28 : decode cJ9_equals 28 = .ok (.aload_n 0, 1) := dk_42 (dk_at dksJ9_equals_1 5 rfl rfl)
theorem dJ9_equals_29 : decode cJ9_equals 29 = .ok (.aload_n 1, 1) := dk_43 (dk_at dksJ9_equals_1 6 rfl rfl)
theorem dJ9_equals_30 : decode cJ9_equals 30 = .ok (.iload_n 2, 1) := dk_28 (dk_at dksJ9_equals_1 7 rfl rfl)
theorem dJ9_equals_31 : decode cJ9_equals 31 = .ok (.invokestatic 254, 3) := dk_184 0 254 (dk_at dksJ9_equals_1 8 rfl rfl)
theorem dJ9_equals_34 : decode cJ9_equals 34 = .ok (.ifCond .ge 7, 3) := dk_156 0 7 (dk_at dksJ9_equals_1 11 rfl rfl)
theorem dJ9_equals_37 : decode cJ9_equals 37 = .ok (.iconst 1, 1) := dk_4 (dk_at dksJ9_equals_1 14 rfl rfl)
theorem dJ9_equals_38 : decode cJ9_equals 38 = .ok (.goto 4, 3) := dk_167 0 4 (dk_at dksJ9_equals_1 15 rfl rfl)
theorem dJ9_equals_41 : decode cJ9_equals 41 = .ok (.iconst 0, 1) := dk_3 (dk_at dksJ9_equals_1 18 rfl rfl)
theorem dJ9_equals_42 : decode cJ9_equals 42 = .ok (.ireturn, 1) := dk_172 (dk_at dksJ9_equals_1 19 rfl rfl)
def dkwJ9_copyOf_3_1 : List UInt8 := [27, 184, 1, 48, 184, 0, 150, 44, 176]
abbrev dktJ9_copyOf_3_1 : List UInt8 := dkwJ9_copyOf_3_1 ++ []
def dkwJ9_copyOf_3_0 : List UInt8 := [27, 42, 190, 160, 0, 11, 42, 182, 1, 54, 192, 1, 55, 176, 27, 188, 8, 77, 42, 3, 44, 3, 42, 190]
abbrev dktJ9_copyOf_3_0 : List UInt8 := dkwJ9_copyOf_3_0 ++ dktJ9_copyOf_3_1
theorem dksJ9_copyOf_3_0 : cJ9_copyOf_3.data.toList.drop 0 = dktJ9_copyOf_3_0 := by decide +kernel
theorem dksJ9_copyOf_3_1 : cJ9_copyOf_3.data.toList.drop 24 = dktJ9_copyOf_3_1 := dk_seg dksJ9_copyOf_3_0 24 rfl rfl
theorem dJ9_copyOf_3_0 : decode cJ9_copyOf_3 0 = .ok (.iload_n 1, 1) := dk_27 (dk_at dksJ9_copyOf_3_0 0 rfl rfl)
theorem dJ9_copyOf_3_1 : decode cJ9_copyOf_3 1 = .ok (.aload_n 0, 1) := dk_42 (dk_at dksJ9_copyOf_3_0 1 rfl rfl)
theorem dJ9_copyOf_3_2 : decode cJ9_copyOf_3 2 = .ok (.arraylength, 1) := dk_190 (dk_at dksJ9_copyOf_3_0 2 rfl rfl)
theorem dJ9_copyOf_3_3 : decode cJ9_copyOf_3 3 = .ok (.if_icmp .ne 11, 3) := dk_160 0 11 (dk_at dksJ9_copyOf_3_0 3 rfl rfl)
theorem dJ9_copyOf_3_6 : decode cJ9_copyOf_3 6 = .ok (.aload_n 0, 1) := dk_42 (dk_at dksJ9_copyOf_3_0 6 rfl rfl)
theorem dJ9_copyOf_3_7 : decode cJ9_copyOf_3 7 = .ok (.invokevirtual 310, 3) := dk_182 1 54 (dk_at dksJ9_copyOf_3_0 7 rfl rfl)
theorem dJ9_copyOf_3_10 : decode cJ9_copyOf_3 10 = .ok (.checkcast 311, 3) := dk_192 1 55 (dk_at dksJ9_copyOf_3_0 10 rfl rfl)
theorem dJ9_copyOf_3_13 : decode cJ9_copyOf_3 13 = .ok (.areturn, 1) := dk_176 (dk_at dksJ9_copyOf_3_0 13 rfl rfl)
theorem dJ9_copyOf_3_14 : decode cJ9_copyOf_3 14 = .ok (.iload_n 1, 1) := dk_27 (dk_at dksJ9_copyOf_3_0 14 rfl rfl)
theorem dJ9_copyOf_3_15 : decode cJ9_copyOf_3 15 = .ok (.newarray .byte, 2) := dk_188_8 (dk_at dksJ9_copyOf_3_0 15 rfl rfl)
theorem dJ9_copyOf_3_17 : decode cJ9_copyOf_3 17 = .ok (.astore_n 2, 1) := dk_77 (dk_at dksJ9_copyOf_3_0 17 rfl rfl)
theorem dJ9_copyOf_3_18 : decode cJ9_copyOf_3 18 = .ok (.aload_n 0, 1) := dk_42 (dk_at dksJ9_copyOf_3_0 18 rfl rfl)
theorem dJ9_copyOf_3_19 : decode cJ9_copyOf_3 19 = .ok (.iconst 0, 1) := dk_3 (dk_at dksJ9_copyOf_3_0 19 rfl rfl)
theorem dJ9_copyOf_3_20 : decode cJ9_copyOf_3 20 = .ok (.aload_n 2, 1) := dk_44 (dk_at dksJ9_copyOf_3_0 20 rfl rfl)
theorem dJ9_copyOf_3_21 : decode cJ9_copyOf_3 21 = .ok (.iconst 0, 1) := dk_3 (dk_at dksJ9_copyOf_3_0 21 rfl rfl)
theorem dJ9_copyOf_3_22 : decode cJ9_copyOf_3 22 = .ok (.aload_n 0, 1) := dk_42 (dk_at dksJ9_copyOf_3_0 22 rfl rfl)
theorem dJ9_copyOf_3_23 : decode cJ9_copyOf_3 23 = .ok (.arraylength, 1) := dk_190 (dk_at dksJ9_copyOf_3_0 23 rfl rfl)
theorem dJ9_copyOf_3_24 : decode cJ9_copyOf_3 24 = .ok (.iload_n 1, 1) := dk_27 (dk_at dksJ9_copyOf_3_1 0 rfl rfl)
theorem dJ9_copyOf_3_25 : decode cJ9_copyOf_3 25 = .ok (.invokestatic 304, 3) := dk_184 1 48 (dk_at dksJ9_copyOf_3_1 1 rfl rfl)
theorem dJ9_copyOf_3_28 : decode cJ9_copyOf_3 28 = .ok (.invokestatic 150, 3) := dk_184 0 150 (dk_at dksJ9_copyOf_3_1 4 rfl rfl)
theorem dJ9_copyOf_3_31 : decode cJ9_copyOf_3 31 = .ok (.aload_n 2, 1) := dk_44 (dk_at dksJ9_copyOf_3_1 7 rfl rfl)
theorem dJ9_copyOf_3_32 : decode cJ9_copyOf_3 32 = .ok (.areturn, 1) := dk_176 (dk_at dksJ9_copyOf_3_1 8 rfl rfl)
def dkwJ9_copyOfRange_1 : List UInt8 := [176]
abbrev dktJ9_copyOfRange_1 : List UInt8 := dkwJ9_copyOfRange_1 ++ []
def dkwJ9_copyOfRange_0 : List UInt8 := [27, 154, 0, 9, 28, 42, 190, 159, 0, 10, 42, 27, 28, 184, 1, 83, 176, 42, 182, 1, 54, 192, 1, 55]
abbrev dktJ9_copyOfRange_0 : List UInt8 := dkwJ9_copyOfRange_0 ++ dktJ9_copyOfRange_1
theorem dksJ9_copyOfRange_0 : cJ9_copyOfRange.data.toList.drop 0 = dktJ9_copyOfRange_0 := by decide +kernel
theorem dksJ9_copyOfRange_1 : cJ9_copyOfRange.data.toList.drop 24 = dktJ9_copyOfRange_1 := dk_seg dksJ9_copyOfRange_0 24 rfl rfl
theorem dJ9_copyOfRange_0 : decode cJ9_copyOfRange 0 = .ok (.iload_n 1, 1) := dk_27 (dk_at dksJ9_copyOfRange_0 0 rfl rfl)
theorem dJ9_copyOfRange_1 : decode cJ9_copyOfRange 1 = .ok (.ifCond .ne 9, 3) := dk_154 0 9 (dk_at dksJ9_copyOfRange_0 1 rfl rfl)
theorem dJ9_copyOfRange_4 : decode cJ9_copyOfRange 4 = .ok (.iload_n 2, 1) := dk_28 (dk_at dksJ9_copyOfRange_0 4 rfl rfl)
theorem dJ9_copyOfRange_5 : decode cJ9_copyOfRange 5 = .ok (.aload_n 0, 1) := dk_42 (dk_at dksJ9_copyOfRange_0 5 rfl rfl)
theorem dJ9_copyOfRange_6 : decode cJ9_copyOfRange 6 = .ok (.arraylength, 1) := dk_190 (dk_at dksJ9_copyOfRange_0 6 rfl rfl)
theorem dJ9_copyOfRange_7 : decode cJ9_copyOfRange 7 = .ok (.if_icmp .eq 10, 3) := dk_159 0 10 (dk_at dksJ9_copyOfRange_0 7 rfl rfl)
theorem dJ9_copyOfRange_10 : decode cJ9_copyOfRange 10 = .ok (.aload_n 0, 1) := dk_42 (dk_at dksJ9_copyOfRange_0 10 rfl rfl)
theorem dJ9_copyOfRange_11 : decode cJ9_copyOfRange 11 = .ok (.iload_n 1, 1) := dk_27 (dk_at dksJ9_copyOfRange_0 11 rfl rfl)
theorem dJ9_copyOfRange_12 : decode cJ9_copyOfRange 12 = .ok (.iload_n 2, 1) := dk_28 (dk_at dksJ9_copyOfRange_0 12 rfl rfl)
theorem dJ9_copyOfRange_13 : decode cJ9_copyOfRange 13 = .ok (.invokestatic 339, 3) := dk_184 1 83 (dk_at dksJ9_copyOfRange_0 13 rfl rfl)
theorem dJ9_copyOfRange_16 : decode cJ9_copyOfRange 16 = .ok (.areturn, 1) := dk_176 (dk_at dksJ9_copyOfRange_0 16 rfl rfl)
theorem dJ9_copyOfRange_17 : decode cJ9_copyOfRange 17 = .ok (.aload_n 0, 1) := dk_42 (dk_at dksJ9_copyOfRange_0 17 rfl rfl)
theorem dJ9_copyOfRange_18 : decode cJ9_copyOfRange 18 = .ok (.invokevirtual 310, 3) := dk_182 1 54 (dk_at dksJ9_copyOfRange_0 18 rfl rfl)
theorem dJ9_copyOfRange_21 : decode cJ9_copyOfRange 21 = .ok (.checkcast 311, 3) := dk_192 1 55 (dk_at dksJ9_copyOfRange_0 21 rfl rfl)
theorem dJ9_copyOfRange_24 : decode cJ9_copyOfRange 24 = .ok (.areturn, 1) := dk_176 (dk_at dksJ9_copyOfRange_1 0 rfl rfl)
def dkwJ9_copyOfRangeByte_1 : List UInt8 := [184, 1, 48, 184, 0, 150, 25, 4, 176]
abbrev dktJ9_copyOfRangeByte_1 : List UInt8 := dkwJ9_copyOfRangeByte_1 ++ []
def dkwJ9_copyOfRangeByte_0 : List UInt8 := [27, 28, 184, 1, 87, 28, 27, 100, 62, 29, 188, 8, 58, 4, 42, 27, 25, 4, 3, 42, 190, 27, 100, 29]
abbrev dktJ9_copyOfRangeByte_0 : List UInt8 := dkwJ9_copyOfRangeByte_0 ++ dktJ9_copyOfRangeByte_1
theorem dksJ9_copyOfRangeByte_0 : cJ9_copyOfRangeByte.data.toList.drop 0 = dktJ9_copyOfRangeByte_0 := by decide +kernel
theorem dksJ9_copyOfRangeByte_1 : cJ9_copyOfRangeByte.data.toList.drop 24 = dktJ9_copyOfRangeByte_1 := dk_seg dksJ9_copyOfRangeByte_0 24 rfl rfl
theorem dJ9_copyOfRangeByte_0 : decode cJ9_copyOfRangeByte 0 = .ok (.iload_n 1, 1) := dk_27 (dk_at dksJ9_copyOfRangeByte_0 0 rfl rfl)
theorem dJ9_copyOfRangeByte_1 : decode cJ9_copyOfRangeByte 1 = .ok (.iload_n 2, 1) := dk_28 (dk_at dksJ9_copyOfRangeByte_0 1 rfl rfl)
theorem dJ9_copyOfRangeByte_2 : decode cJ9_copyOfRangeByte 2 = .ok (.invokestatic 343, 3) := dk_184 1 87 (dk_at dksJ9_copyOfRangeByte_0 2 rfl rfl)
theorem dJ9_copyOfRangeByte_5 : decode cJ9_copyOfRangeByte 5 = .ok (.iload_n 2, 1) := dk_28 (dk_at dksJ9_copyOfRangeByte_0 5 rfl rfl)
theorem dJ9_copyOfRangeByte_6 : decode cJ9_copyOfRangeByte 6 = .ok (.iload_n 1, 1) := dk_27 (dk_at dksJ9_copyOfRangeByte_0 6 rfl rfl)
theorem dJ9_copyOfRangeByte_7 : decode cJ9_copyOfRangeByte 7 = .ok (.isub, 1) := dk_100 (dk_at dksJ9_copyOfRangeByte_0 7 rfl rfl)
theorem dJ9_copyOfRangeByte_8 : decode cJ9_copyOfRangeByte 8 = .ok (.istore_n 3, 1) := dk_62 (dk_at dksJ9_copyOfRangeByte_0 8 rfl rfl)
theorem dJ9_copyOfRangeByte_9 : decode cJ9_copyOfRangeByte 9 = .ok (.iload_n 3, 1) := dk_29 (dk_at dksJ9_copyOfRangeByte_0 9 rfl rfl)
theorem dJ9_copyOfRangeByte_10 : decode cJ9_copyOfRangeByte 10 = .ok (.newarray .byte, 2) := dk_188_8 (dk_at dksJ9_copyOfRangeByte_0 10 rfl rfl)
theorem dJ9_copyOfRangeByte_12 : decode cJ9_copyOfRangeByte 12 = .ok (.astore 4, 2) := dk_58 4 (dk_at dksJ9_copyOfRangeByte_0 12 rfl rfl)
theorem dJ9_copyOfRangeByte_14 : decode cJ9_copyOfRangeByte 14 = .ok (.aload_n 0, 1) := dk_42 (dk_at dksJ9_copyOfRangeByte_0 14 rfl rfl)
theorem dJ9_copyOfRangeByte_15 : decode cJ9_copyOfRangeByte 15 = .ok (.iload_n 1, 1) := dk_27 (dk_at dksJ9_copyOfRangeByte_0 15 rfl rfl)
theorem dJ9_copyOfRangeByte_16 : decode cJ9_copyOfRangeByte 16 = .ok (.aload 4, 2) := dk_25 4 (dk_at dksJ9_copyOfRangeByte_0 16 rfl rfl)
theorem dJ9_copyOfRangeByte_18 : decode cJ9_copyOfRangeByte 18 = .ok (.iconst 0, 1) := dk_3 (dk_at dksJ9_copyOfRangeByte_0 18 rfl rfl)
theorem dJ9_copyOfRangeByte_19 : decode cJ9_copyOfRangeByte 19 = .ok (.aload_n 0, 1) := dk_42 (dk_at dksJ9_copyOfRangeByte_0 19 rfl rfl)
theorem dJ9_copyOfRangeByte_20 : decode cJ9_copyOfRangeByte 20 = .ok (.arraylength, 1) := dk_190 (dk_at dksJ9_copyOfRangeByte_0 20 rfl rfl)
theorem dJ9_copyOfRangeByte_21 : decode cJ9_copyOfRangeByte 21 = .ok (.iload_n 1, 1) := dk_27 (dk_at dksJ9_copyOfRangeByte_0 21 rfl rfl)
theorem dJ9_copyOfRangeByte_22 : decode cJ9_copyOfRangeByte 22 = .ok (.isub, 1) := dk_100 (dk_at dksJ9_copyOfRangeByte_0 22 rfl rfl)
theorem dJ9_copyOfRangeByte_23 : decode cJ9_copyOfRangeByte 23 = .ok (.iload_n 3, 1) := dk_29 (dk_at dksJ9_copyOfRangeByte_0 23 rfl rfl)
theorem dJ9_copyOfRangeByte_24 : decode cJ9_copyOfRangeByte 24 = .ok (.invokestatic 304, 3) := dk_184 1 48 (dk_at dksJ9_copyOfRangeByte_1 0 rfl rfl)
theorem dJ9_copyOfRangeByte_27 : decode cJ9_copyOfRangeByte 27 = .ok (.invokestatic 150, 3) := dk_184 0 150 (dk_at dksJ9_copyOfRangeByte_1 3 rfl rfl)
theorem dJ9_copyOfRangeByte_30 : decode cJ9_copyOfRangeByte 30 = .ok (.aload 4, 2) := dk_25 4 (dk_at dksJ9_copyOfRangeByte_1 6 rfl rfl)
theorem dJ9_copyOfRangeByte_32 : decode cJ9_copyOfRangeByte 32 = .ok (.areturn, 1) := dk_176 (dk_at dksJ9_copyOfRangeByte_1 8 rfl rfl)
def dkwJ9_checkLength_1 : List UInt8 := [182, 0, 50, 27, 182, 0, 54, 182, 0, 61, 183, 0, 65, 191, 177]
abbrev dktJ9_checkLength_1 : List UInt8 := dkwJ9_checkLength_1 ++ []
def dkwJ9_checkLength_0 : List UInt8 := [27, 26, 162, 0, 35, 187, 0, 43, 89, 187, 0, 45, 89, 183, 0, 47, 26, 182, 0, 54, 19, 1, 81]
abbrev dktJ9_checkLength_0 : List UInt8 := dkwJ9_checkLength_0 ++ dktJ9_checkLength_1
theorem dksJ9_checkLength_0 : cJ9_checkLength.data.toList.drop 0 = dktJ9_checkLength_0 := by decide +kernel
theorem dksJ9_checkLength_1 : cJ9_checkLength.data.toList.drop 23 = dktJ9_checkLength_1 := dk_seg dksJ9_checkLength_0 23 rfl rfl
theorem dJ9_checkLength_0 : decode cJ9_checkLength 0 = .ok (.iload_n 1, 1) := dk_27 (dk_at dksJ9_checkLength_0 0 rfl rfl)
theorem dJ9_checkLength_1 : decode cJ9_checkLength 1 = .ok (.iload_n 0, 1) := dk_26 (dk_at dksJ9_checkLength_0 1 rfl rfl)
theorem dJ9_checkLength_2 : decode cJ9_checkLength 2 = .ok (.if_icmp .ge 35, 3) := dk_162 0 35 (dk_at dksJ9_checkLength_0 2 rfl rfl)
theorem dJ9_checkLength_5 : decode cJ9_checkLength 5 = .ok (.new 43, 3) := dk_187 0 43 (dk_at dksJ9_checkLength_0 5 rfl rfl)
theorem dJ9_checkLength_8 : decode cJ9_checkLength 8 = .ok (.dup, 1) := dk_89 (dk_at dksJ9_checkLength_0 8 rfl rfl)
theorem dJ9_checkLength_9 : decode cJ9_checkLength 9 = .ok (.new 45, 3) := dk_187 0 45 (dk_at dksJ9_checkLength_0 9 rfl rfl)
theorem dJ9_checkLength_12 : decode cJ9_checkLength 12 = .ok (.dup, 1) := dk_89 (dk_at dksJ9_checkLength_0 12 rfl rfl)
theorem dJ9_checkLength_13 : decode cJ9_checkLength 13 = .ok (.invokespecial 47, 3) := dk_183 0 47 (dk_at dksJ9_checkLength_0 13 rfl rfl)
theorem dJ9_checkLength_16 : decode cJ9_checkLength 16 = .ok (.iload_n 0, 1) := dk_26 (dk_at dksJ9_checkLength_0 16 rfl rfl)
theorem dJ9_checkLength_17 : decode cJ9_checkLength 17 = .ok (.invokevirtual 54, 3) := dk_182 0 54 (dk_at dksJ9_checkLength_0 17 rfl rfl)
theorem dJ9_checkLength_20 : decode cJ9_checkLength 20 = .ok (.ldc_w 337, 3) := dk_19 1 81 (dk_at dksJ9_checkLength_0 20 rfl rfl)
theorem dJ9_checkLength_23 : decode cJ9_checkLength 23 = .ok (.invokevirtual 50, 3) := dk_182 0 50 (dk_at dksJ9_checkLength_1 0 rfl rfl)
theorem dJ9_checkLength_26 : decode cJ9_checkLength 26 = .ok (.iload_n 1, 1) := dk_27 (dk_at dksJ9_checkLength_1 3 rfl rfl)
theorem dJ9_checkLength_27 : decode cJ9_checkLength 27 = .ok (.invokevirtual 54, 3) := dk_182 0 54 (dk_at dksJ9_checkLength_1 4 rfl rfl)
theorem dJ9_checkLength_30 : decode cJ9_checkLength 30 = .ok (.invokevirtual 61, 3) := dk_182 0 61 (dk_at dksJ9_checkLength_1 7 rfl rfl)
theorem dJ9_checkLength_33 : decode cJ9_checkLength 33 = .ok (.invokespecial 65, 3) := dk_183 0 65 (dk_at dksJ9_checkLength_1 10 rfl rfl)
theorem dJ9_checkLength_36 : decode cJ9_checkLength 36 = .ok (.athrow, 1) := dk_191 (dk_at dksJ9_checkLength_1 13 rfl rfl)
theorem dJ9_checkLength_37 : decode cJ9_checkLength 37 = .ok (.return_, 1) := dk_177 (dk_at dksJ9_checkLength_1 14 rfl rfl)

/-- all but the cells of one label is kept -/
def zFrL (la : Nat × Nat) (G G' : zHG) : Prop := ∀ (a : Nat) (lb : Nat × Nat) (e : va_E), G a = some (lb, e) → lb ≠ la → G' a = some (lb, e)
theorem zFrL.rf {la : Nat × Nat} {G : zHG} : zFrL la G G := fun _ _ _ h _ => h
theorem zFrL.tr {la : Nat × Nat} {G G1 G2 : zHG} (h : zFrL la G G1) (h' : zFrL la G1 G2) : zFrL la G G2 := fun a lb e h1 h2 => h' a lb e (h a lb e h1 h2) h2
theorem zFrL.kp {la κ : Nat × Nat} {G G' : zHG} (h : zFrL la G G') (hn : zKy la ≠ κ) (h9 : ¬ (zKy la).2 = 9) : zKp κ G G' := fun a lb e h1 h2 => h a lb e h1 (fun z => by
  subst z
  rcases h2 with h2 | h2
  · exact h9 h2
  · exact hn h2)
theorem zFrL.toK {la κ : Nat × Nat} {G G' : zHG} (h : zFrL la G G') (hk : zKy la = κ) (h9 : ¬ κ.2 = 9) : zFrK [κ] G G' := fun a lb e h1 h2 => h a lb e h1 (fun z => by
  subst z
  rcases h2 with h2 | h2
  · exact h9 (hk ▸ h2)
  · exact h2 (List.mem_singleton.mpr hk))
theorem zup_frL {G : zHG} {a : Nat} {lb : Nat × Nat} {e0 e : va_E} (ha : G a = some (lb, e0)) : zFrL lb G (zup G a (lb, e)) := fun b l e' h1 h2 => zup_keep ha h1 h2
theorem v_ast {g : Zg} {X : Zx} {own : String} {cc : ByteArray} {nL : Nat} {ret : Option FieldType} {d mc ms : Nat} {u v pc : Nat} {G : zHG} {L : List (Nat × Value)} {st : List Value} (hX : zOk g X own cc nL ret d mc ms) {la : Nat × Nat} {a n : Nat} {f : Nat → Int32} {x : Int32} (hA : zAr G a la (zca g 0) n f) (j : Nat) (hj : j < n) (hn : n < 2147483648) (hdg : decode cc pc = .ok (.iastore, 1)) (p : Nat) (hp : pc + 1 = p) (kk : ∀ G', zAr G' a la (zca g 0) n (upd f j x) → zFrL la G G' → ZW g X u v G' p L st) : ZW g X u v G pc L (.int x :: .int (nI j) :: .ref a :: st) := by
  obtain ⟨f0, ha, hf0⟩ := hA
  exact z_iast hX ha hdg p hp (z_inN hj hn) (f' := upd f0 j x) (by rw [nI_clamp (by omega)]) (kk _ ⟨_, zup_self _ _ _, zupF hf0⟩ (zup_frL ha))
def x9_fill4_l5 (x : Int32) (ini : Nat → Int32) (k : Nat) : Nat → Int32 := zfold k (fun j1 cj1 => upd cj1 j1 x) ini
theorem x9_fill4_l5_0 (x : Int32) (ini : Nat → Int32) : x9_fill4_l5 x ini 0 = ini := (zfold_0 _ _).trans (Eq.refl _)
def x9_fill4_a_f (a_f : Nat → Int32) (x : Int32) : Nat → Int32 := x9_fill4_l5 x a_f 4
set_option maxHeartbeats 4000000 in
theorem met_J9_fill4 {g : Zg} (hG : zG g) {G0 : zHG} {la : Nat × Nat} {a : Nat} {a_f : Nat → Int32} (ha : zAr G0 a la (zca g 0) 4 a_f) (h9_a : ¬ (zKy la).2 = 9) (x : Int32)  : ZM g yJ9_fill cJ9_fill 4 none 0 0 0 [.ref a, .int x] G0 (fun r G' => r = none ∧ (zAr G' a la (zca g 0) 4 (x9_fill4_a_f a_f x) ∧ zFrL la G0 G')) := by
  unfold x9_fill4_a_f
  refine ZM_mk hG (by decide) (Nat.le_of_ble_eq_true rfl) ?_
  intro X hX hname hQ
  obtain ⟨G, hGe⟩ : ∃ z, z = G0 := ⟨_, rfl⟩
  have hM : zAr G a la (zca g 0) 4 a_f ∧ zFrL la G0 G := by rw [hGe]; exact ⟨ha, zFrL.rf⟩
  show ZW g X 0 0 G0 0 [(0, .ref a), (1, .int x)] []
  rw [← hGe]
  refine z_iconst hX dJ9_fill_0 1 rfl zki_0 ?_
  refine z_istore_n hX dJ9_fill_1 2 rfl (i := 2) rfl (Nat.le_of_ble_eq_true rfl) rfl (L' := [(0, .ref a), (1, .int x), (2, .int 0)]) rfl ?_
  refine z_aload_n hX dJ9_fill_2 3 rfl (i := 0) rfl 0 rfl ?_
  refine z_alenF hX hM.1 dJ9_fill_3 4 rfl ?_
  refine z_istore_n hX dJ9_fill_4 5 rfl (i := 3) rfl (Nat.le_of_ble_eq_true rfl) rfl (L' := [(0, .ref a), (1, .int x), (2, .int 0), (3, .int (nI 4))]) rfl ?_
  have E2 : ∀ G : zHG, zAr G a la (zca g 0) 4 (x9_fill4_l5 x a_f 4) ∧ zFrL la G0 G → ZW g X 0 0 G 20 [(0, .ref a), (1, .int x), (2, .int (nI 4)), (3, .int (nI 4))] [] := by
    intro G hM
    exact z_vret hX hQ (Nat.zero_le _) (Nat.zero_le _) rfl dJ9_fill_20 ⟨rfl, hM⟩
  have Lp3 : ∀ k j1 : Nat, j1 + k = 4 → ∀ G : zHG, zAr G a la (zca g 0) 4 (x9_fill4_l5 x a_f j1) ∧ zFrL la G0 G → ZW g X 0 0 G 5 [(0, .ref a), (1, .int x), (2, .int (nI j1)), (3, .int (nI 4))] [] := by
    intro k
    induction k with
    | zero =>
      intro j1 hj1 G hM
      rw [show j1 = 4 from by omega] at hM ⊢
      refine z_iload_n hX dJ9_fill_5 6 rfl (i := 2) rfl 2 rfl ?_
      refine z_iload_n hX dJ9_fill_6 7 rfl (i := 3) rfl 3 rfl ?_
      refine z_icmp_geN hX 4 4 (by omega) (by omega) dJ9_fill_7 10 rfl (tgt := 20) (by decide) (fun c4 => ?_) (fun c4 => ?_)
      · exact E2 _ hM
      · exact absurd c4 (by omega)
    | succ k ih =>
      intro j1 hj1 G hM
      refine z_iload_n hX dJ9_fill_5 6 rfl (i := 2) rfl 2 rfl ?_
      refine z_iload_n hX dJ9_fill_6 7 rfl (i := 3) rfl 3 rfl ?_
      refine z_icmp_geN hX j1 4 (by omega) (by omega) dJ9_fill_7 10 rfl (tgt := 20) (by decide) (fun c5 => ?_) (fun c5 => ?_)
      · exact absurd c5 (by omega)
      ·
        refine z_aload_n hX dJ9_fill_10 11 rfl (i := 0) rfl 0 rfl ?_
        refine z_iload_n hX dJ9_fill_11 12 rfl (i := 2) rfl 2 rfl ?_
        refine z_iload_n hX dJ9_fill_12 13 rfl (i := 1) rfl 1 rfl ?_
        refine v_ast hX hM.1 j1 (by omega) (by decide) dJ9_fill_13 14 rfl (fun G hw hf => ?_)
        have hM : zAr G a la (zca g 0) 4 (upd (x9_fill4_l5 x a_f j1) j1 x) ∧ zFrL la G0 G := ⟨hw, hM.2.tr hf⟩
        refine z_iinc hX dJ9_fill_14 17 rfl 2 rfl (w := nI (j1 + 1)) (nI_1 j1) (Nat.le_of_ble_eq_true rfl) rfl (L' := [(0, .ref a), (1, .int x), (2, .int (nI (j1 + 1))), (3, .int (nI 4))]) rfl ?_
        refine z_goto hX dJ9_fill_17 (tgt := 5) (by decide) ?_
        exact ih (j1 + 1) (by omega) _ hM
  have hM : zAr G a la (zca g 0) 4 (x9_fill4_l5 x a_f 0) ∧ zFrL la G0 G := by simpa only [x9_fill4_l5_0] using hM
  exact Lp3 4 0 (by omega) _ hM
def x9_fill6_l5 (x : Int32) (ini : Nat → Int32) (k : Nat) : Nat → Int32 := zfold k (fun j1 cj1 => upd cj1 j1 x) ini
theorem x9_fill6_l5_0 (x : Int32) (ini : Nat → Int32) : x9_fill6_l5 x ini 0 = ini := (zfold_0 _ _).trans (Eq.refl _)
def x9_fill6_a_f (a_f : Nat → Int32) (x : Int32) : Nat → Int32 := x9_fill6_l5 x a_f 6
set_option maxHeartbeats 4000000 in
theorem met_J9_fill6 {g : Zg} (hG : zG g) {G0 : zHG} {la : Nat × Nat} {a : Nat} {a_f : Nat → Int32} (ha : zAr G0 a la (zca g 0) 6 a_f) (h9_a : ¬ (zKy la).2 = 9) (x : Int32)  : ZM g yJ9_fill cJ9_fill 4 none 0 0 0 [.ref a, .int x] G0 (fun r G' => r = none ∧ (zAr G' a la (zca g 0) 6 (x9_fill6_a_f a_f x) ∧ zFrL la G0 G')) := by
  unfold x9_fill6_a_f
  refine ZM_mk hG (by decide) (Nat.le_of_ble_eq_true rfl) ?_
  intro X hX hname hQ
  obtain ⟨G, hGe⟩ : ∃ z, z = G0 := ⟨_, rfl⟩
  have hM : zAr G a la (zca g 0) 6 a_f ∧ zFrL la G0 G := by rw [hGe]; exact ⟨ha, zFrL.rf⟩
  show ZW g X 0 0 G0 0 [(0, .ref a), (1, .int x)] []
  rw [← hGe]
  refine z_iconst hX dJ9_fill_0 1 rfl zki_0 ?_
  refine z_istore_n hX dJ9_fill_1 2 rfl (i := 2) rfl (Nat.le_of_ble_eq_true rfl) rfl (L' := [(0, .ref a), (1, .int x), (2, .int 0)]) rfl ?_
  refine z_aload_n hX dJ9_fill_2 3 rfl (i := 0) rfl 0 rfl ?_
  refine z_alenF hX hM.1 dJ9_fill_3 4 rfl ?_
  refine z_istore_n hX dJ9_fill_4 5 rfl (i := 3) rfl (Nat.le_of_ble_eq_true rfl) rfl (L' := [(0, .ref a), (1, .int x), (2, .int 0), (3, .int (nI 6))]) rfl ?_
  have E2 : ∀ G : zHG, zAr G a la (zca g 0) 6 (x9_fill6_l5 x a_f 6) ∧ zFrL la G0 G → ZW g X 0 0 G 20 [(0, .ref a), (1, .int x), (2, .int (nI 6)), (3, .int (nI 6))] [] := by
    intro G hM
    exact z_vret hX hQ (Nat.zero_le _) (Nat.zero_le _) rfl dJ9_fill_20 ⟨rfl, hM⟩
  have Lp3 : ∀ k j1 : Nat, j1 + k = 6 → ∀ G : zHG, zAr G a la (zca g 0) 6 (x9_fill6_l5 x a_f j1) ∧ zFrL la G0 G → ZW g X 0 0 G 5 [(0, .ref a), (1, .int x), (2, .int (nI j1)), (3, .int (nI 6))] [] := by
    intro k
    induction k with
    | zero =>
      intro j1 hj1 G hM
      rw [show j1 = 6 from by omega] at hM ⊢
      refine z_iload_n hX dJ9_fill_5 6 rfl (i := 2) rfl 2 rfl ?_
      refine z_iload_n hX dJ9_fill_6 7 rfl (i := 3) rfl 3 rfl ?_
      refine z_icmp_geN hX 6 6 (by omega) (by omega) dJ9_fill_7 10 rfl (tgt := 20) (by decide) (fun c4 => ?_) (fun c4 => ?_)
      · exact E2 _ hM
      · exact absurd c4 (by omega)
    | succ k ih =>
      intro j1 hj1 G hM
      refine z_iload_n hX dJ9_fill_5 6 rfl (i := 2) rfl 2 rfl ?_
      refine z_iload_n hX dJ9_fill_6 7 rfl (i := 3) rfl 3 rfl ?_
      refine z_icmp_geN hX j1 6 (by omega) (by omega) dJ9_fill_7 10 rfl (tgt := 20) (by decide) (fun c5 => ?_) (fun c5 => ?_)
      · exact absurd c5 (by omega)
      ·
        refine z_aload_n hX dJ9_fill_10 11 rfl (i := 0) rfl 0 rfl ?_
        refine z_iload_n hX dJ9_fill_11 12 rfl (i := 2) rfl 2 rfl ?_
        refine z_iload_n hX dJ9_fill_12 13 rfl (i := 1) rfl 1 rfl ?_
        refine v_ast hX hM.1 j1 (by omega) (by decide) dJ9_fill_13 14 rfl (fun G hw hf => ?_)
        have hM : zAr G a la (zca g 0) 6 (upd (x9_fill6_l5 x a_f j1) j1 x) ∧ zFrL la G0 G := ⟨hw, hM.2.tr hf⟩
        refine z_iinc hX dJ9_fill_14 17 rfl 2 rfl (w := nI (j1 + 1)) (nI_1 j1) (Nat.le_of_ble_eq_true rfl) rfl (L' := [(0, .ref a), (1, .int x), (2, .int (nI (j1 + 1))), (3, .int (nI 6))]) rfl ?_
        refine z_goto hX dJ9_fill_17 (tgt := 5) (by decide) ?_
        exact ih (j1 + 1) (by omega) _ hM
  have hM : zAr G a la (zca g 0) 6 (x9_fill6_l5 x a_f 0) ∧ zFrL la G0 G := by simpa only [x9_fill6_l5_0] using hM
  exact Lp3 6 0 (by omega) _ hM
def x1_mustSell (N : Nat → Int32) (h : Nat) (w : Int32) : Int32 := (if 0 ≤ w then (if ((((if 0 < ((N (10 + (5 * h) + 2)) - w) then ((N (10 + (5 * h) + 2)) - w) else 0 : Int32) + (N (10 + (5 * h) + 3))) - 1) / (N (10 + (5 * h) + 3))) < (x1_pieces N h) then ((((if 0 < ((N (10 + (5 * h) + 2)) - w) then ((N (10 + (5 * h) + 2)) - w) else 0 : Int32) + (N (10 + (5 * h) + 3))) - 1) / (N (10 + (5 * h) + 3))) else (x1_pieces N h) : Int32) else x1_pieces N h : Int32)
set_option maxHeartbeats 4000000 in
theorem met_X1_mustSell {g : Zg} (hG : zG g) {G : zHG} {q t : Nat} {B : Nat → Nat → Nat} {N tk cp sh pr : Nat → Int32} {fc gn : Int32} (ht : zTo g G q t B N tk cp sh pr fc gn) {A H : Nat} {K : Nat → Nat} (hN : zWf N A H K) (h : Nat) (w : Int32) (h_h : h < H)  : ZM g yX1_mustSell cX1_mustSell 6 (some FieldType.int) 1 0 0 [.ref t, .int (nI h), .int w] G (zRet (some (.int (x1_mustSell N h w))) G) := by
  unfold x1_mustSell
  have hN2 := hN.2.1
  have hN4 := hN.2.2.2.1
  have hne := hN.2.2.2.2.2 h h_h
  refine ZM_mk hG (by decide) (Nat.le_of_ble_eq_true rfl) ?_
  intro X hX hname hQ
  show ZW g X 0 0 G 0 [(0, .ref t), (1, .int (nI h)), (2, .int w)] []
  refine z_aload_n hX dX1_mustSell_0 1 rfl (i := 0) rfl 0 rfl ?_
  refine z_iload_n hX dX1_mustSell_1 2 rfl (i := 1) rfl 1 rfl ?_
  refine z_callVp hX cwX1_150 (w := .int (x1_pieces N h)) (met_X1_pieces hG ht h (by omega)) ht.o rfl rfl dX1_mustSell_2 5 rfl rfl rfl (Nat.le_of_ble_eq_true rfl) (by decide) ⟨Nat.zero_le _, Nat.zero_le _⟩ ?_
  refine z_istore_n hX dX1_mustSell_5 6 rfl (i := 3) rfl (Nat.le_of_ble_eq_true rfl) rfl (L' := [(0, .ref t), (1, .int (nI h)), (2, .int w), (3, .int (x1_pieces N h))]) rfl ?_
  refine z_iload_n hX dX1_mustSell_6 7 rfl (i := 2) rfl 2 rfl ?_
  refine z_if_ge hX dX1_mustSell_7 10 rfl (tgt := 12) (by decide) (fun c1 => ?_) (fun c1 => ?_)
  ·
    refine z_iconst hX dX1_mustSell_12 13 rfl zki_0 ?_
    refine z_aload_n hX dX1_mustSell_13 14 rfl (i := 0) rfl 0 rfl ?_
    refine z_getf hX fX1_16 ht.o dX1_mustSell_14 17 rfl (x := .ref (B 2 0)) rfl ?_
    refine z_iload_n hX dX1_mustSell_17 18 rfl (i := 1) rfl 1 rfl ?_
    refine z_aaldF hX 2 rfl rfl ht.o0 (j := h) (by omega) (by decide) rfl dX1_mustSell_18 19 rfl ?_
    refine z_iconst hX dX1_mustSell_19 20 rfl zki_2 ?_
    refine z_ialdF hX (ht.fo h (by omega)) (j := 2) (by omega) (by decide) dX1_mustSell_20 21 rfl (w := N (10 + (5 * h) + 2)) rfl ?_
    refine z_iload_n hX dX1_mustSell_21 22 rfl (i := 2) rfl 2 rfl ?_
    refine z_isub hX dX1_mustSell_22 23 rfl (w := (N (10 + (5 * h) + 2)) - w) rfl ?_
    refine z_mmax hX q636 q637 q113 q638 dX1_mustSell_23 26 rfl (by decide) (Nat.le_of_ble_eq_true rfl) (by omega) (by omega) (w := (if 0 < ((N (10 + (5 * h) + 2)) - w) then ((N (10 + (5 * h) + 2)) - w) else 0 : Int32)) (by first | rfl | (split <;> split <;> first | rfl | omega | (exfalso; simp_all))) ?_
    refine z_istore hX dX1_mustSell_26 28 rfl (Nat.le_of_ble_eq_true rfl) rfl (L' := [(0, .ref t), (1, .int (nI h)), (2, .int w), (3, .int (x1_pieces N h)), (4, .int (if 0 < ((N (10 + (5 * h) + 2)) - w) then ((N (10 + (5 * h) + 2)) - w) else 0 : Int32))]) rfl ?_
    refine z_aload_n hX dX1_mustSell_28 29 rfl (i := 0) rfl 0 rfl ?_
    refine z_getf hX fX1_16 ht.o dX1_mustSell_29 32 rfl (x := .ref (B 2 0)) rfl ?_
    refine z_iload_n hX dX1_mustSell_32 33 rfl (i := 1) rfl 1 rfl ?_
    refine z_aaldF hX 2 rfl rfl ht.o0 (j := h) (by omega) (by decide) rfl dX1_mustSell_33 34 rfl ?_
    refine z_iconst hX dX1_mustSell_34 35 rfl zki_3 ?_
    refine z_ialdF hX (ht.fo h (by omega)) (j := 3) (by omega) (by decide) dX1_mustSell_35 36 rfl (w := N (10 + (5 * h) + 3)) rfl ?_
    refine z_istore hX dX1_mustSell_36 38 rfl (Nat.le_of_ble_eq_true rfl) rfl (L' := [(0, .ref t), (1, .int (nI h)), (2, .int w), (3, .int (x1_pieces N h)), (4, .int (if 0 < ((N (10 + (5 * h) + 2)) - w) then ((N (10 + (5 * h) + 2)) - w) else 0 : Int32)), (5, .int (N (10 + (5 * h) + 3)))]) rfl ?_
    refine z_iload_n hX dX1_mustSell_38 39 rfl (i := 3) rfl 3 rfl ?_
    refine z_iload hX dX1_mustSell_39 41 rfl 4 rfl ?_
    refine z_iload hX dX1_mustSell_41 43 rfl 5 rfl ?_
    refine z_iadd hX dX1_mustSell_43 44 rfl (w := (if 0 < ((N (10 + (5 * h) + 2)) - w) then ((N (10 + (5 * h) + 2)) - w) else 0 : Int32) + (N (10 + (5 * h) + 3))) rfl ?_
    refine z_iconst hX dX1_mustSell_44 45 rfl zki_1 ?_
    refine z_isub hX dX1_mustSell_45 46 rfl (w := ((if 0 < ((N (10 + (5 * h) + 2)) - w) then ((N (10 + (5 * h) + 2)) - w) else 0 : Int32) + (N (10 + (5 * h) + 3))) - 1) rfl ?_
    refine z_iload hX dX1_mustSell_46 48 rfl 5 rfl ?_
    refine z_idiv hX dX1_mustSell_48 49 rfl (by assumption) (w := (((if 0 < ((N (10 + (5 * h) + 2)) - w) then ((N (10 + (5 * h) + 2)) - w) else 0 : Int32) + (N (10 + (5 * h) + 3))) - 1) / (N (10 + (5 * h) + 3))) rfl ?_
    refine z_mmin hX q589 q408 q113 q409 dX1_mustSell_49 52 rfl (by decide) (Nat.le_of_ble_eq_true rfl) (by omega) (by omega) (w := (if ((((if 0 < ((N (10 + (5 * h) + 2)) - w) then ((N (10 + (5 * h) + 2)) - w) else 0 : Int32) + (N (10 + (5 * h) + 3))) - 1) / (N (10 + (5 * h) + 3))) < (x1_pieces N h) then ((((if 0 < ((N (10 + (5 * h) + 2)) - w) then ((N (10 + (5 * h) + 2)) - w) else 0 : Int32) + (N (10 + (5 * h) + 3))) - 1) / (N (10 + (5 * h) + 3))) else (x1_pieces N h) : Int32)) (by first | rfl | (split <;> split <;> first | rfl | omega | (exfalso; simp_all))) ?_
    exact z_iret hX hQ (Nat.zero_le _) (Nat.zero_le _) rfl dX1_mustSell_52 ⟨(by first | (simp only [if_pos c1] <;> rfl; done) | grind), rfl⟩
  ·
    refine z_iload_n hX dX1_mustSell_10 11 rfl (i := 3) rfl 3 rfl ?_
    exact z_iret hX hQ (Nat.zero_le _) (Nat.zero_le _) rfl dX1_mustSell_11 ⟨(by first | (simp only [if_neg c1] <;> rfl; done) | grind), rfl⟩
def x1_mustSell_2 (N : Nat → Int32) (tk : Nat → Int32) (sh : Nat → Int32) (pr : Nat → Int32) (s_sold : Nat → Int32) (s_fallen : Int32) (A : Nat) (H : Nat) (K : Nat → Nat) (h : Nat) : Int32 := x1_mustSell N h (x1_worth_2 N tk sh pr s_sold s_fallen A H K h)
def x1_mustSell_2_pr (N : Nat → Int32) (tk : Nat → Int32) (sh : Nat → Int32) (pr : Nat → Int32) (s_sold : Nat → Int32) (A : Nat) (K : Nat → Nat) (h : Nat) : Nat → Int32 := x1_worth_2_pr N tk sh pr s_sold A K h
set_option maxHeartbeats 4000000 in
theorem met_X1_mustSell_2 {g : Zg} (hG : zG g) {G0 : zHG} {q t : Nat} {B : Nat → Nat → Nat} {N tk cp sh pr : Nat → Int32} {fc gn : Int32} {ks : Nat × Nat} {s : Nat} {bs : Nat} {s_sold : Nat → Int32} {s_fallen : Int32} (ht : zTo g G0 q t B N tk cp sh pr fc gn) (hs : zSt g G0 ks s bs s_sold s_fallen) {A H : Nat} {K : Nat → Nat} (hN : zWf N A H K) (ne_t_s : (q, 0) ≠ ks) (h : Nat) (h_h : h < H)  : ZM g yX1_mustSell_2 cX1_mustSell_2 3 (some FieldType.int) 7 0 0 [.ref t, .ref s, .int (nI h)] G0 (fun r G' => r = some (.int (x1_mustSell_2 N tk sh pr s_sold s_fallen A H K h)) ∧ (zTo g G' q t B N tk cp sh (x1_mustSell_2_pr N tk sh pr s_sold A K h) fc gn ∧ zSt g G' ks s bs s_sold s_fallen ∧ zFrK [(q, 0)] G0 G')) := by
  unfold x1_mustSell_2 x1_mustSell_2_pr
  have hN2 := hN.2.1
  have hN4 := hN.2.2.2.1
  refine ZM_mk hG (by decide) (Nat.le_of_ble_eq_true rfl) ?_
  intro X hX hname hQ
  obtain ⟨G, hGe⟩ : ∃ z, z = G0 := ⟨_, rfl⟩
  have hM : zTo g G q t B N tk cp sh pr fc gn ∧ zSt g G ks s bs s_sold s_fallen ∧ zFrK [(q, 0)] G0 G := by rw [hGe]; exact ⟨ht, hs, zFrK.rf⟩
  show ZW g X 0 0 G0 0 [(0, .ref t), (1, .ref s), (2, .int (nI h))] []
  rw [← hGe]
  refine z_aload_n hX dX1_mustSell_2_0 1 rfl (i := 0) rfl 0 rfl ?_
  refine z_iload_n hX dX1_mustSell_2_1 2 rfl (i := 2) rfl 2 rfl ?_
  refine z_aload_n hX dX1_mustSell_2_2 3 rfl (i := 0) rfl 0 rfl ?_
  refine z_aload_n hX dX1_mustSell_2_3 4 rfl (i := 1) rfl 1 rfl ?_
  refine z_iload_n hX dX1_mustSell_2_4 5 rfl (i := 2) rfl 2 rfl ?_
  refine z_callV hX cwX1_153 (met_X1_worth_2 hG hM.1 hM.2.1 hN ne_t_s h (by omega)) hM.1.o rfl rfl dX1_mustSell_2_5 8 rfl rfl rfl (Nat.le_of_ble_eq_true rfl) (by decide) ⟨by omega, by omega⟩ (fun r G hP => ?_)
  obtain ⟨rfl, hP⟩ := hP
  have hM : zTo g G q t B N tk cp sh (x1_worth_2_pr N tk sh pr s_sold A K h) fc gn ∧ zSt g G ks s bs s_sold s_fallen ∧ zFrK [(q, 0)] G0 G := ⟨hP.1, hP.2.1, hM.2.2.stepL hP.2.2 (zml1 (Or.inl List.mem_cons_self) zml0)⟩
  show ZW g X 0 0 G 8 [(0, .ref t), (1, .ref s), (2, .int (nI h))] [.int (x1_worth_2 N tk sh pr s_sold s_fallen A H K h), .int (nI h), .ref t]
  refine z_callVp hX cwX1_155 (w := .int (x1_mustSell N h (x1_worth_2 N tk sh pr s_sold s_fallen A H K h))) (met_X1_mustSell hG hM.1 hN h (x1_worth_2 N tk sh pr s_sold s_fallen A H K h) (by omega)) hM.1.o rfl rfl dX1_mustSell_2_8 11 rfl rfl rfl (Nat.le_of_ble_eq_true rfl) (by decide) ⟨Nat.zero_le _, Nat.zero_le _⟩ ?_
  exact z_iret hX hQ (Nat.zero_le _) (Nat.zero_le _) rfl dX1_mustSell_2_11 ⟨rfl, hM⟩
def x1_sells_l6 (N : Nat → Int32) (A : Nat) (h : Nat) (ini : Int32 × (Nat → Int32)) (k : Nat) : Int32 × (Nat → Int32) := zfold k (fun j1 cj1 => (cj1.1 - (if (N (40 + (4 * h) + (if (N (10 + (5 * h) + 4)) = 0 then j1 else A - 1 - j1))) < cj1.1 then (N (40 + (4 * h) + (if (N (10 + (5 * h) + 4)) = 0 then j1 else A - 1 - j1))) else cj1.1 : Int32), upd cj1.2 (if (N (10 + (5 * h) + 4)) = 0 then j1 else A - 1 - j1) ((cj1.2 (if (N (10 + (5 * h) + 4)) = 0 then j1 else A - 1 - j1)) + (if (N (40 + (4 * h) + (if (N (10 + (5 * h) + 4)) = 0 then j1 else A - 1 - j1))) < cj1.1 then (N (40 + (4 * h) + (if (N (10 + (5 * h) + 4)) = 0 then j1 else A - 1 - j1))) else cj1.1 : Int32)))) ini
theorem x1_sells_l6_0 (N : Nat → Int32) (A : Nat) (h : Nat) (ini : Int32 × (Nat → Int32)) : x1_sells_l6 N A h ini 0 = ini := (zfold_0 _ _).trans (Eq.refl _)
def x1_sells_onto_f (N : Nat → Int32) (onto_f : Nat → Int32) (A : Nat) (h : Nat) (many : Int32) : Nat → Int32 := (x1_sells_l6 N A h (many, onto_f) A).2
set_option maxHeartbeats 4000000 in
theorem met_X1_sells {g : Zg} (hG : zG g) {G0 : zHG} {q t : Nat} {B : Nat → Nat → Nat} {N tk cp sh pr : Nat → Int32} {fc gn : Int32} {lonto : Nat × Nat} {onto : Nat} {onto_f : Nat → Int32} (ht : zTo g G0 q t B N tk cp sh pr fc gn) (honto : zAr G0 onto lonto (zca g 0) 4 onto_f) {A H : Nat} {K : Nat → Nat} (hN : zWf N A H K) (h9_onto : ¬ (zKy lonto).2 = 9) (ne_t_onto : (q, 0) ≠ zKy lonto) (h : Nat) (many : Int32) (h_h : h < 6)  : ZM g yX1_sells cX1_sells 8 none 1 0 0 [.ref t, .int (nI h), .int many, .ref onto] G0 (fun r G' => r = none ∧ (zTo g G' q t B N tk cp sh pr fc gn ∧ zAr G' onto lonto (zca g 0) 4 (x1_sells_onto_f N onto_f A h many) ∧ zFrL lonto G0 G')) := by
  unfold x1_sells_onto_f
  have hN2 := hN.2.1
  have hN4 := hN.2.2.2.1
  refine ZM_mk hG (by decide) (Nat.le_of_ble_eq_true rfl) ?_
  intro X hX hname hQ
  obtain ⟨G, hGe⟩ : ∃ z, z = G0 := ⟨_, rfl⟩
  have hM : zTo g G q t B N tk cp sh pr fc gn ∧ zAr G onto lonto (zca g 0) 4 onto_f ∧ zFrL lonto G0 G := by rw [hGe]; exact ⟨ht, honto, zFrL.rf⟩
  show ZW g X 0 0 G0 0 [(0, .ref t), (1, .int (nI h)), (2, .int many), (3, .ref onto)] []
  rw [← hGe]
  refine z_iload_n hX dX1_sells_0 1 rfl (i := 2) rfl 2 rfl ?_
  refine z_istore hX dX1_sells_1 3 rfl (Nat.le_of_ble_eq_true rfl) rfl (L' := [(0, .ref t), (1, .int (nI h)), (2, .int many), (3, .ref onto), (4, .int many)]) rfl ?_
  refine z_iconst hX dX1_sells_3 4 rfl zki_0 ?_
  refine z_istore hX dX1_sells_4 6 rfl (Nat.le_of_ble_eq_true rfl) rfl (L' := [(0, .ref t), (1, .int (nI h)), (2, .int many), (3, .ref onto), (4, .int many), (5, .int 0)]) rfl ?_
  have E2 : ∀ G : zHG, zTo g G q t B N tk cp sh pr fc gn ∧ zAr G onto lonto (zca g 0) 4 ((x1_sells_l6 N A h (many, onto_f) A).2) ∧ zFrL lonto G0 G → ZW g X 0 0 G 80 [(0, .ref t), (1, .int (nI h)), (2, .int many), (3, .ref onto), (4, .int ((x1_sells_l6 N A h (many, onto_f) A).1)), (5, .int (nI A))] [] := by
    intro G hM
    exact z_vret hX hQ (Nat.zero_le _) (Nat.zero_le _) rfl dX1_sells_80 ⟨rfl, hM⟩
  have Lp3 : ∀ k j1 : Nat, j1 + k = A → ∀ G : zHG, zTo g G q t B N tk cp sh pr fc gn ∧ zAr G onto lonto (zca g 0) 4 ((x1_sells_l6 N A h (many, onto_f) j1).2) ∧ zFrL lonto G0 G → ZW g X 0 0 G 6 [(0, .ref t), (1, .int (nI h)), (2, .int many), (3, .ref onto), (4, .int ((x1_sells_l6 N A h (many, onto_f) j1).1)), (5, .int (nI j1))] [] := by
    intro k
    induction k with
    | zero =>
      intro j1 hj1 G hM
      rw [show j1 = A from by omega] at hM ⊢
      refine z_iload hX dX1_sells_6 8 rfl 5 rfl ?_
      refine z_aload_n hX dX1_sells_8 9 rfl (i := 0) rfl 0 rfl ?_
      refine z_getf hX fX1_70 hM.1.o dX1_sells_9 12 rfl (x := .int (nI A)) (congrArg (fun z => some (Value.int z)) hN.1) ?_
      refine z_icmp_geN hX A A (by omega) (by omega) dX1_sells_12 15 rfl (tgt := 80) (by decide) (fun c4 => ?_) (fun c4 => ?_)
      · exact E2 _ hM
      · exact absurd c4 (by omega)
    | succ k ih =>
      intro j1 hj1 G hM
      refine z_iload hX dX1_sells_6 8 rfl 5 rfl ?_
      refine z_aload_n hX dX1_sells_8 9 rfl (i := 0) rfl 0 rfl ?_
      refine z_getf hX fX1_70 hM.1.o dX1_sells_9 12 rfl (x := .int (nI A)) (congrArg (fun z => some (Value.int z)) hN.1) ?_
      refine z_icmp_geN hX j1 A (by omega) (by omega) dX1_sells_12 15 rfl (tgt := 80) (by decide) (fun c5 => ?_) (fun c5 => ?_)
      · exact absurd c5 (by omega)
      ·
        refine z_aload_n hX dX1_sells_15 16 rfl (i := 0) rfl 0 rfl ?_
        refine z_getf hX fX1_16 hM.1.o dX1_sells_16 19 rfl (x := .ref (B 2 0)) rfl ?_
        refine z_iload_n hX dX1_sells_19 20 rfl (i := 1) rfl 1 rfl ?_
        refine z_aaldF hX 2 rfl rfl hM.1.o0 (j := h) (by omega) (by decide) rfl dX1_sells_20 21 rfl ?_
        refine z_iconst hX dX1_sells_21 22 rfl zki_4 ?_
        refine z_ialdF hX (hM.1.fo h (by omega)) (j := 4) (by omega) (by decide) dX1_sells_22 23 rfl (w := N (10 + (5 * h) + 4)) rfl ?_
        have J7 : ZW g X 0 0 G 40 [(0, .ref t), (1, .int (nI h)), (2, .int many), (3, .ref onto), (4, .int ((x1_sells_l6 N A h (many, onto_f) j1).1)), (5, .int (nI j1))] [.int (nI (if (N (10 + (5 * h) + 4)) = 0 then j1 else A - 1 - j1))] := by
          refine z_istore hX dX1_sells_40 42 rfl (Nat.le_of_ble_eq_true rfl) rfl (L' := [(0, .ref t), (1, .int (nI h)), (2, .int many), (3, .ref onto), (4, .int ((x1_sells_l6 N A h (many, onto_f) j1).1)), (5, .int (nI j1)), (6, .int (nI (if (N (10 + (5 * h) + 4)) = 0 then j1 else A - 1 - j1)))]) rfl ?_
          refine z_iload hX dX1_sells_42 44 rfl 4 rfl ?_
          refine z_aload_n hX dX1_sells_44 45 rfl (i := 0) rfl 0 rfl ?_
          refine z_getf hX fX1_19 hM.1.o dX1_sells_45 48 rfl (x := .ref (B 3 0)) rfl ?_
          refine z_iload_n hX dX1_sells_48 49 rfl (i := 1) rfl 1 rfl ?_
          refine z_aaldF hX 2 rfl rfl hM.1.h0 (j := h) (by omega) (by decide) rfl dX1_sells_49 50 rfl ?_
          refine z_iload hX dX1_sells_50 52 rfl 6 rfl ?_
          refine z_ialdF hX (hM.1.fh h (by omega)) (j := if (N (10 + (5 * h) + 4)) = 0 then j1 else A - 1 - j1) (by first | omega | (split <;> omega)) (by decide) dX1_sells_52 53 rfl (w := N (40 + (4 * h) + (if (N (10 + (5 * h) + 4)) = 0 then j1 else A - 1 - j1))) rfl ?_
          refine z_mmin hX q589 q408 q113 q409 dX1_sells_53 56 rfl (by decide) (Nat.le_of_ble_eq_true rfl) (by omega) (by omega) (w := (if (N (40 + (4 * h) + (if (N (10 + (5 * h) + 4)) = 0 then j1 else A - 1 - j1))) < ((x1_sells_l6 N A h (many, onto_f) j1).1) then (N (40 + (4 * h) + (if (N (10 + (5 * h) + 4)) = 0 then j1 else A - 1 - j1))) else ((x1_sells_l6 N A h (many, onto_f) j1).1) : Int32)) (by first | rfl | (split <;> split <;> first | rfl | omega | (exfalso; simp_all))) ?_
          refine z_istore hX dX1_sells_56 58 rfl (Nat.le_of_ble_eq_true rfl) rfl (L' := [(0, .ref t), (1, .int (nI h)), (2, .int many), (3, .ref onto), (4, .int ((x1_sells_l6 N A h (many, onto_f) j1).1)), (5, .int (nI j1)), (6, .int (nI (if (N (10 + (5 * h) + 4)) = 0 then j1 else A - 1 - j1))), (7, .int (if (N (40 + (4 * h) + (if (N (10 + (5 * h) + 4)) = 0 then j1 else A - 1 - j1))) < ((x1_sells_l6 N A h (many, onto_f) j1).1) then (N (40 + (4 * h) + (if (N (10 + (5 * h) + 4)) = 0 then j1 else A - 1 - j1))) else ((x1_sells_l6 N A h (many, onto_f) j1).1) : Int32))]) rfl ?_
          refine z_aload_n hX dX1_sells_58 59 rfl (i := 3) rfl 3 rfl ?_
          refine z_iload hX dX1_sells_59 61 rfl 6 rfl ?_
          refine z_dup2_11 hX dX1_sells_61 62 rfl rfl rfl ?_
          refine z_ialdF hX hM.2.1 (j := if (N (10 + (5 * h) + 4)) = 0 then j1 else A - 1 - j1) (by first | omega | (split <;> omega)) (by decide) dX1_sells_62 63 rfl (w := ((x1_sells_l6 N A h (many, onto_f) j1).2) (if (N (10 + (5 * h) + 4)) = 0 then j1 else A - 1 - j1)) rfl ?_
          refine z_iload hX dX1_sells_63 65 rfl 7 rfl ?_
          refine z_iadd hX dX1_sells_65 66 rfl (w := (((x1_sells_l6 N A h (many, onto_f) j1).2) (if (N (10 + (5 * h) + 4)) = 0 then j1 else A - 1 - j1)) + (if (N (40 + (4 * h) + (if (N (10 + (5 * h) + 4)) = 0 then j1 else A - 1 - j1))) < ((x1_sells_l6 N A h (many, onto_f) j1).1) then (N (40 + (4 * h) + (if (N (10 + (5 * h) + 4)) = 0 then j1 else A - 1 - j1))) else ((x1_sells_l6 N A h (many, onto_f) j1).1) : Int32)) rfl ?_
          refine v_ast hX hM.2.1 (if (N (10 + (5 * h) + 4)) = 0 then j1 else A - 1 - j1) (by first | omega | (split <;> omega)) (by decide) dX1_sells_66 67 rfl (fun G hw hf => ?_)
          have hM : zTo g G q t B N tk cp sh pr fc gn ∧ zAr G onto lonto (zca g 0) 4 (upd ((x1_sells_l6 N A h (many, onto_f) j1).2) (if (N (10 + (5 * h) + 4)) = 0 then j1 else A - 1 - j1) ((((x1_sells_l6 N A h (many, onto_f) j1).2) (if (N (10 + (5 * h) + 4)) = 0 then j1 else A - 1 - j1)) + (if (N (40 + (4 * h) + (if (N (10 + (5 * h) + 4)) = 0 then j1 else A - 1 - j1))) < ((x1_sells_l6 N A h (many, onto_f) j1).1) then (N (40 + (4 * h) + (if (N (10 + (5 * h) + 4)) = 0 then j1 else A - 1 - j1))) else ((x1_sells_l6 N A h (many, onto_f) j1).1) : Int32))) ∧ zFrL lonto G0 G := ⟨hM.1.kp (hf.kp (Ne.symm ne_t_onto) h9_onto), hw, hM.2.2.tr hf⟩
          refine z_iload hX dX1_sells_67 69 rfl 4 rfl ?_
          refine z_iload hX dX1_sells_69 71 rfl 7 rfl ?_
          refine z_isub hX dX1_sells_71 72 rfl (w := ((x1_sells_l6 N A h (many, onto_f) j1).1) - (if (N (40 + (4 * h) + (if (N (10 + (5 * h) + 4)) = 0 then j1 else A - 1 - j1))) < ((x1_sells_l6 N A h (many, onto_f) j1).1) then (N (40 + (4 * h) + (if (N (10 + (5 * h) + 4)) = 0 then j1 else A - 1 - j1))) else ((x1_sells_l6 N A h (many, onto_f) j1).1) : Int32)) rfl ?_
          refine z_istore hX dX1_sells_72 74 rfl (Nat.le_of_ble_eq_true rfl) rfl (L' := [(0, .ref t), (1, .int (nI h)), (2, .int many), (3, .ref onto), (4, .int (((x1_sells_l6 N A h (many, onto_f) j1).1) - (if (N (40 + (4 * h) + (if (N (10 + (5 * h) + 4)) = 0 then j1 else A - 1 - j1))) < ((x1_sells_l6 N A h (many, onto_f) j1).1) then (N (40 + (4 * h) + (if (N (10 + (5 * h) + 4)) = 0 then j1 else A - 1 - j1))) else ((x1_sells_l6 N A h (many, onto_f) j1).1) : Int32))), (5, .int (nI j1)), (6, .int (nI (if (N (10 + (5 * h) + 4)) = 0 then j1 else A - 1 - j1))), (7, .int (if (N (40 + (4 * h) + (if (N (10 + (5 * h) + 4)) = 0 then j1 else A - 1 - j1))) < ((x1_sells_l6 N A h (many, onto_f) j1).1) then (N (40 + (4 * h) + (if (N (10 + (5 * h) + 4)) = 0 then j1 else A - 1 - j1))) else ((x1_sells_l6 N A h (many, onto_f) j1).1) : Int32))]) rfl ?_
          refine z_iinc hX dX1_sells_74 77 rfl 5 rfl (w := nI (j1 + 1)) (nI_1 j1) (Nat.le_of_ble_eq_true rfl) rfl (L' := [(0, .ref t), (1, .int (nI h)), (2, .int many), (3, .ref onto), (4, .int (((x1_sells_l6 N A h (many, onto_f) j1).1) - (if (N (40 + (4 * h) + (if (N (10 + (5 * h) + 4)) = 0 then j1 else A - 1 - j1))) < ((x1_sells_l6 N A h (many, onto_f) j1).1) then (N (40 + (4 * h) + (if (N (10 + (5 * h) + 4)) = 0 then j1 else A - 1 - j1))) else ((x1_sells_l6 N A h (many, onto_f) j1).1) : Int32))), (5, .int (nI (j1 + 1))), (6, .int (nI (if (N (10 + (5 * h) + 4)) = 0 then j1 else A - 1 - j1))), (7, .int (if (N (40 + (4 * h) + (if (N (10 + (5 * h) + 4)) = 0 then j1 else A - 1 - j1))) < ((x1_sells_l6 N A h (many, onto_f) j1).1) then (N (40 + (4 * h) + (if (N (10 + (5 * h) + 4)) = 0 then j1 else A - 1 - j1))) else ((x1_sells_l6 N A h (many, onto_f) j1).1) : Int32))]) rfl ?_
          refine z_goto hX dX1_sells_77 (tgt := 6) (by decide) ?_
          refine z_sub [0, 1, 2, 3, 4, 5] rfl ?_
          exact ih (j1 + 1) (by omega) _ hM
        refine z_if_ne hX dX1_sells_23 26 rfl (tgt := 31) (by decide) (fun c6 => ?_) (fun c6 => ?_)
        ·
          refine z_aload_n hX dX1_sells_31 32 rfl (i := 0) rfl 0 rfl ?_
          refine z_getf hX fX1_70 hM.1.o dX1_sells_32 35 rfl (x := .int (nI A)) (congrArg (fun z => some (Value.int z)) hN.1) ?_
          refine z_iconst hX dX1_sells_35 36 rfl zki_1 ?_
          refine z_isub hX dX1_sells_36 37 rfl (w := nI (A - 1)) (pk_sub (a := A) (b := 1) (by omega)) ?_
          refine z_iload hX dX1_sells_37 39 rfl 5 rfl ?_
          refine z_isub hX dX1_sells_39 40 rfl (w := nI (A - 1 - j1)) (pk_sub (a := A - 1) (b := j1) (by omega)) ?_
          exact z_eqL rfl (by first | (simp only [if_neg c6] <;> rfl; done) | grind) J7
        ·
          refine z_iload hX dX1_sells_26 28 rfl 5 rfl ?_
          refine z_goto hX dX1_sells_28 (tgt := 40) (by decide) ?_
          exact z_eqL rfl (by first | (simp only [if_pos c6] <;> rfl; done) | grind) J7
  have hM : zTo g G q t B N tk cp sh pr fc gn ∧ zAr G onto lonto (zca g 0) 4 ((x1_sells_l6 N A h (many, onto_f) 0).2) ∧ zFrL lonto G0 G := by simpa only [x1_sells_l6_0] using hM
  exact Lp3 A 0 (by omega) _ hM
def x1_lost_l4 (N : Nat → Int32) (tk : Nat → Int32) (sh : Nat → Int32) (s_sold : Nat → Int32) (K : Nat → Nat) (ini : Int32) (k : Nat) : Int32 := zfold k (fun j1 cj1 => cj1 + ((x1_held N j1) * ((x1_calmPrice N sh K j1) - (x1_price N tk sh s_sold K j1)))) ini
theorem x1_lost_l4_0 (N : Nat → Int32) (tk : Nat → Int32) (sh : Nat → Int32) (s_sold : Nat → Int32) (K : Nat → Nat) (ini : Int32) : x1_lost_l4 N tk sh s_sold K ini 0 = ini := (zfold_0 _ _).trans (Eq.refl _)
def x1_lost (N : Nat → Int32) (tk : Nat → Int32) (sh : Nat → Int32) (s_sold : Nat → Int32) (A : Nat) (K : Nat → Nat) : Int32 := x1_lost_l4 N tk sh s_sold K 0 A
set_option maxHeartbeats 4000000 in
theorem met_X1_lost {g : Zg} (hG : zG g) {G : zHG} {q t : Nat} {B : Nat → Nat → Nat} {N tk cp sh pr : Nat → Int32} {fc gn : Int32} {ks : Nat × Nat} {s : Nat} {bs : Nat} {s_sold : Nat → Int32} {s_fallen : Int32} (ht : zTo g G q t B N tk cp sh pr fc gn) (hs : zSt g G ks s bs s_sold s_fallen) {A H : Nat} {K : Nat → Nat} (hN : zWf N A H K)  : ZM g yX1_lost cX1_lost 4 (some FieldType.int) 5 0 0 [.ref t, .ref s] G (zRet (some (.int (x1_lost N tk sh s_sold A K))) G) := by
  unfold x1_lost
  have hN2 := hN.2.1
  have hN4 := hN.2.2.2.1
  refine ZM_mk hG (by decide) (Nat.le_of_ble_eq_true rfl) ?_
  intro X hX hname hQ
  show ZW g X 0 0 G 0 [(0, .ref t), (1, .ref s)] []
  refine z_iconst hX dX1_lost_0 1 rfl zki_0 ?_
  refine z_istore_n hX dX1_lost_1 2 rfl (i := 2) rfl (Nat.le_of_ble_eq_true rfl) rfl (L' := [(0, .ref t), (1, .ref s), (2, .int 0)]) rfl ?_
  refine z_iconst hX dX1_lost_2 3 rfl zki_0 ?_
  refine z_istore_n hX dX1_lost_3 4 rfl (i := 3) rfl (Nat.le_of_ble_eq_true rfl) rfl (L' := [(0, .ref t), (1, .ref s), (2, .int 0), (3, .int 0)]) rfl ?_
  have E2 : ZW g X 0 0 G 39 [(0, .ref t), (1, .ref s), (2, .int (x1_lost_l4 N tk sh s_sold K 0 A)), (3, .int (nI A))] [] := by
    refine z_iload_n hX dX1_lost_39 40 rfl (i := 2) rfl 2 rfl ?_
    exact z_iret hX hQ (Nat.zero_le _) (Nat.zero_le _) rfl dX1_lost_40 ⟨rfl, rfl⟩
  have Lp3 : ∀ k j1 : Nat, j1 + k = A → ZW g X 0 0 G 4 [(0, .ref t), (1, .ref s), (2, .int (x1_lost_l4 N tk sh s_sold K 0 j1)), (3, .int (nI j1))] [] := by
    intro k
    induction k with
    | zero =>
      intro j1 hj1
      rw [show j1 = A from by omega]
      refine z_iload_n hX dX1_lost_4 5 rfl (i := 3) rfl 3 rfl ?_
      refine z_aload_n hX dX1_lost_5 6 rfl (i := 0) rfl 0 rfl ?_
      refine z_getf hX fX1_70 ht.o dX1_lost_6 9 rfl (x := .int (nI A)) (congrArg (fun z => some (Value.int z)) hN.1) ?_
      refine z_icmp_geN hX A A (by omega) (by omega) dX1_lost_9 12 rfl (tgt := 39) (by decide) (fun c4 => ?_) (fun c4 => ?_)
      · exact E2
      · exact absurd c4 (by omega)
    | succ k ih =>
      intro j1 hj1
      refine z_iload_n hX dX1_lost_4 5 rfl (i := 3) rfl 3 rfl ?_
      refine z_aload_n hX dX1_lost_5 6 rfl (i := 0) rfl 0 rfl ?_
      refine z_getf hX fX1_70 ht.o dX1_lost_6 9 rfl (x := .int (nI A)) (congrArg (fun z => some (Value.int z)) hN.1) ?_
      refine z_icmp_geN hX j1 A (by omega) (by omega) dX1_lost_9 12 rfl (tgt := 39) (by decide) (fun c5 => ?_) (fun c5 => ?_)
      · exact absurd c5 (by omega)
      ·
        refine z_iload_n hX dX1_lost_12 13 rfl (i := 2) rfl 2 rfl ?_
        refine z_aload_n hX dX1_lost_13 14 rfl (i := 0) rfl 0 rfl ?_
        refine z_iload_n hX dX1_lost_14 15 rfl (i := 3) rfl 3 rfl ?_
        refine z_callVp hX cwX1_91 (w := .int (x1_held N j1)) (met_X1_held hG ht j1 (by omega)) ht.o rfl rfl dX1_lost_15 18 rfl rfl rfl (Nat.le_of_ble_eq_true rfl) (by decide) ⟨Nat.zero_le _, Nat.zero_le _⟩ ?_
        refine z_aload_n hX dX1_lost_18 19 rfl (i := 0) rfl 0 rfl ?_
        refine z_iload_n hX dX1_lost_19 20 rfl (i := 3) rfl 3 rfl ?_
        refine z_callVp hX cwX1_201 (w := .int (x1_calmPrice N sh K j1)) (met_X1_calmPrice hG ht hN j1 (by omega)) ht.o rfl rfl dX1_lost_20 23 rfl rfl rfl (Nat.le_of_ble_eq_true rfl) (by decide) ⟨Nat.zero_le _, Nat.zero_le _⟩ ?_
        refine z_aload_n hX dX1_lost_23 24 rfl (i := 0) rfl 0 rfl ?_
        refine z_aload_n hX dX1_lost_24 25 rfl (i := 1) rfl 1 rfl ?_
        refine z_iload_n hX dX1_lost_25 26 rfl (i := 3) rfl 3 rfl ?_
        refine z_callVp hX cwX1_135 (w := .int (x1_price N tk sh s_sold K j1)) (met_X1_price hG ht hs hN j1 (by omega)) ht.o rfl rfl dX1_lost_26 29 rfl rfl rfl (Nat.le_of_ble_eq_true rfl) (by decide) ⟨Nat.zero_le _, Nat.zero_le _⟩ ?_
        refine z_isub hX dX1_lost_29 30 rfl (w := (x1_calmPrice N sh K j1) - (x1_price N tk sh s_sold K j1)) rfl ?_
        refine z_imul hX dX1_lost_30 31 rfl (w := (x1_held N j1) * ((x1_calmPrice N sh K j1) - (x1_price N tk sh s_sold K j1))) rfl ?_
        refine z_iadd hX dX1_lost_31 32 rfl (w := (x1_lost_l4 N tk sh s_sold K 0 j1) + ((x1_held N j1) * ((x1_calmPrice N sh K j1) - (x1_price N tk sh s_sold K j1)))) rfl ?_
        refine z_istore_n hX dX1_lost_32 33 rfl (i := 2) rfl (Nat.le_of_ble_eq_true rfl) rfl (L' := [(0, .ref t), (1, .ref s), (2, .int ((x1_lost_l4 N tk sh s_sold K 0 j1) + ((x1_held N j1) * ((x1_calmPrice N sh K j1) - (x1_price N tk sh s_sold K j1))))), (3, .int (nI j1))]) rfl ?_
        refine z_iinc hX dX1_lost_33 36 rfl 3 rfl (w := nI (j1 + 1)) (nI_1 j1) (Nat.le_of_ble_eq_true rfl) rfl (L' := [(0, .ref t), (1, .ref s), (2, .int ((x1_lost_l4 N tk sh s_sold K 0 j1) + ((x1_held N j1) * ((x1_calmPrice N sh K j1) - (x1_price N tk sh s_sold K j1))))), (3, .int (nI (j1 + 1)))]) rfl ?_
        refine z_goto hX dX1_lost_36 (tgt := 4) (by decide) ?_
        exact ih (j1 + 1) (by omega)
  exact Lp3 A 0 (by omega)
def x1_next_l23 (N : Nat → Int32) (tk : Nat → Int32) (sh : Nat → Int32) (pr : Nat → Int32) (s_sold : Nat → Int32) (s_fallen : Int32) (A : Nat) (H : Nat) (K : Nat → Nat) (ini : (Nat → Int32) × Int32) (k : Nat) : (Nat → Int32) × Int32 := zfold k (fun j1 cj1 => (x1_sells_onto_f N cj1.1 A j1 (x1_mustSell N j1 (x1_worth N (x1_prices_pr N tk sh pr s_sold A K) A H j1 s_fallen)), if 0 ≤ (x1_worth N (x1_prices_pr N tk sh pr s_sold A K) A H j1 s_fallen) then cj1.2 else cj1.2 ||| ((1 : Int32) <<< ((nI j1) &&& 31)))) ini
theorem x1_next_l23_0 (N : Nat → Int32) (tk : Nat → Int32) (sh : Nat → Int32) (pr : Nat → Int32) (s_sold : Nat → Int32) (s_fallen : Int32) (A : Nat) (H : Nat) (K : Nat → Nat) (ini : (Nat → Int32) × Int32) : x1_next_l23 N tk sh pr s_sold s_fallen A H K ini 0 = ini := (zfold_0 _ _).trans (Eq.refl _)
def x1_next_l83 (N : Nat → Int32) (cp : Nat → Int32) (K : Nat → Nat) (ini : Nat → Int32) (k : Nat) : Nat → Int32 := zfold k (fun j2 cj2 => upd cj2 j2 (if (x1_cap N cp K j2) < (cj2 j2) then (x1_cap N cp K j2) else (cj2 j2) : Int32)) ini
theorem x1_next_l83_0 (N : Nat → Int32) (cp : Nat → Int32) (K : Nat → Nat) (ini : Nat → Int32) : x1_next_l83 N cp K ini 0 = ini := (zfold_0 _ _).trans (Eq.refl _)
def x1_next_pr (N : Nat → Int32) (tk : Nat → Int32) (sh : Nat → Int32) (pr : Nat → Int32) (s_sold : Nat → Int32) (A : Nat) (K : Nat → Nat) : Nat → Int32 := x1_prices_pr N tk sh pr s_sold A K
def x1_next_o_sold (N : Nat → Int32) (tk : Nat → Int32) (cp : Nat → Int32) (sh : Nat → Int32) (pr : Nat → Int32) (fc : Int32) (s_sold : Nat → Int32) (s_fallen : Int32) (o_sold : Nat → Int32) (A : Nat) (H : Nat) (K : Nat → Nat) : Nat → Int32 := x1_next_l83 N cp K ((x1_next_l23 N tk sh pr s_sold s_fallen A H K (x9_fill4_a_f o_sold 0, fc) H).1) A
def x1_next_o_fallen (N : Nat → Int32) (tk : Nat → Int32) (sh : Nat → Int32) (pr : Nat → Int32) (fc : Int32) (s_sold : Nat → Int32) (s_fallen : Int32) (o_sold : Nat → Int32) (A : Nat) (H : Nat) (K : Nat → Nat) : Int32 := (x1_next_l23 N tk sh pr s_sold s_fallen A H K (x9_fill4_a_f o_sold 0, fc) H).2
set_option maxHeartbeats 4000000 in
theorem met_X1_next {g : Zg} (hG : zG g) {G0 : zHG} {q t : Nat} {B : Nat → Nat → Nat} {N tk cp sh pr : Nat → Int32} {fc gn : Int32} {ks : Nat × Nat} {s : Nat} {bs : Nat} {s_sold : Nat → Int32} {s_fallen : Int32} {ko : Nat × Nat} {o : Nat} {bo : Nat} {o_sold : Nat → Int32} {o_fallen : Int32} (ht : zTo g G0 q t B N tk cp sh pr fc gn) (hs : zSt g G0 ks s bs s_sold s_fallen) (ho : zSt g G0 ko o bo o_sold o_fallen) {A H : Nat} {K : Nat → Nat} (hN : zWf N A H K) (h9_o : ¬ ko.2 = 9) (ne_t_s : (q, 0) ≠ ks) (ne_t_o : (q, 0) ≠ ko) (ne_s_o : ks ≠ ko)  : ZM g yX1_next cX1_next 5 none 6 0 0 [.ref t, .ref s, .ref o] G0 (fun r G' => r = none ∧ (zTo g G' q t B N tk cp sh (x1_next_pr N tk sh pr s_sold A K) fc gn ∧ zSt g G' ks s bs s_sold s_fallen ∧ zSt g G' ko o bo (x1_next_o_sold N tk cp sh pr fc s_sold s_fallen o_sold A H K) (x1_next_o_fallen N tk sh pr fc s_sold s_fallen o_sold A H K) ∧ zFrK [(q, 0), ko] G0 G')) := by
  unfold x1_next_pr x1_next_o_sold x1_next_o_fallen
  have hN2 := hN.2.1
  have hN4 := hN.2.2.2.1
  refine ZM_mk hG (by decide) (Nat.le_of_ble_eq_true rfl) ?_
  intro X hX hname hQ
  obtain ⟨G, hGe⟩ : ∃ z, z = G0 := ⟨_, rfl⟩
  have hM : zTo g G q t B N tk cp sh pr fc gn ∧ zSt g G ks s bs s_sold s_fallen ∧ zSt g G ko o bo o_sold o_fallen ∧ zFrK [(q, 0), ko] G0 G := by rw [hGe]; exact ⟨ht, hs, ho, zFrK.rf⟩
  show ZW g X 0 0 G0 0 [(0, .ref t), (1, .ref s), (2, .ref o)] []
  rw [← hGe]
  refine z_aload_n hX dX1_next_0 1 rfl (i := 2) rfl 2 rfl ?_
  refine z_getfN hX fX1_124 hM.2.2.1.o dX1_next_1 4 rfl (x := .ref bo) rfl ?_
  refine z_iconst hX dX1_next_4 5 rfl zki_0 ?_
  refine z_callS hX cwX1_164 (met_J9_fill4 hG hM.2.2.1.2 (by rw [(zkyS ko 1 (by decide))]; exact h9_o) 0) dX1_next_5 8 rfl rfl rfl (Nat.le_of_ble_eq_true rfl) (by decide) ⟨by omega, by omega⟩ (fun r G hP => ?_)
  obtain ⟨rfl, hP⟩ := hP
  have hfK : zFrK [ko] _ G := hP.2.toK (zkyS ko 1 (by decide)) h9_o
  have hM : zTo g G q t B N tk cp sh pr fc gn ∧ zSt g G ks s bs s_sold s_fallen ∧ zSt g G ko o bo (x9_fill4_a_f o_sold 0) o_fallen ∧ zFrK [(q, 0), ko] G0 G := ⟨hM.1.kp (hfK.kp (zni1 ne_t_o zni0)), hM.2.1.kp (hfK.kp (zni1 ne_s_o zni0)), ⟨hP.2 _ _ _ hM.2.2.1.1 (zlb (by omega)), hP.1⟩, hM.2.2.2.step hfK (List.mem_cons_of_mem _ List.mem_cons_self)⟩
  show ZW g X 0 0 G 8 [(0, .ref t), (1, .ref s), (2, .ref o)] []
  refine z_aload_n hX dX1_next_8 9 rfl (i := 2) rfl 2 rfl ?_
  refine z_aload_n hX dX1_next_9 10 rfl (i := 0) rfl 0 rfl ?_
  refine z_getf hX fX1_118 hM.1.o dX1_next_10 13 rfl (x := .int fc) rfl ?_
  refine s_put_fallenN hX hM.2.2.1 h9_o fX1_121 dX1_next_13 16 rfl (fun G hw hf => ?_)
  have hM : zTo g G q t B N tk cp sh pr fc gn ∧ zSt g G ks s bs s_sold s_fallen ∧ zSt g G ko o bo (x9_fill4_a_f o_sold 0) fc ∧ zFrK [(q, 0), ko] G0 G := ⟨hM.1.kp (hf.kp (zni1 ne_t_o zni0)), hM.2.1.kp (hf.kp (zni1 ne_s_o zni0)), hw, hM.2.2.2.step hf (List.mem_cons_of_mem _ List.mem_cons_self)⟩
  refine z_aload_n hX dX1_next_16 17 rfl (i := 0) rfl 0 rfl ?_
  refine z_aload_n hX dX1_next_17 18 rfl (i := 1) rfl 1 rfl ?_
  refine z_callV hX cwX1_143 (met_X1_prices hG hM.1 hM.2.1 hN ne_t_s) hM.1.o rfl rfl dX1_next_18 21 rfl rfl rfl (Nat.le_of_ble_eq_true rfl) (by decide) ⟨by omega, by omega⟩ (fun r G hP => ?_)
  obtain ⟨rfl, hP⟩ := hP
  have hM : zTo g G q t B N tk cp sh (x1_prices_pr N tk sh pr s_sold A K) fc gn ∧ zSt g G ks s bs s_sold s_fallen ∧ zSt g G ko o bo (x9_fill4_a_f o_sold 0) fc ∧ zFrK [(q, 0), ko] G0 G := ⟨hP.1, hP.2.1, hM.2.2.1.kp (hP.2.2.kp (zni1 (Ne.symm ne_t_o) zni0)), hM.2.2.2.stepL hP.2.2 (zml1 (Or.inl List.mem_cons_self) zml0)⟩
  show ZW g X 0 0 G 21 [(0, .ref t), (1, .ref s), (2, .ref o)] []
  refine z_iconst hX dX1_next_21 22 rfl zki_0 ?_
  refine z_istore_n hX dX1_next_22 23 rfl (i := 3) rfl (Nat.le_of_ble_eq_true rfl) rfl (L' := [(0, .ref t), (1, .ref s), (2, .ref o), (3, .int 0)]) rfl ?_
  have E2 : ∀ G : zHG, zTo g G q t B N tk cp sh (x1_prices_pr N tk sh pr s_sold A K) fc gn ∧ zSt g G ks s bs s_sold s_fallen ∧ zSt g G ko o bo ((x1_next_l23 N tk sh pr s_sold s_fallen A H K (x9_fill4_a_f o_sold 0, fc) H).1) ((x1_next_l23 N tk sh pr s_sold s_fallen A H K (x9_fill4_a_f o_sold 0, fc) H).2) ∧ zFrK [(q, 0), ko] G0 G → ZW g X 0 0 G 81 [(0, .ref t), (1, .ref s), (2, .ref o), (3, .int (nI H))] [] := by
    intro G hM
    refine z_iconst hX dX1_next_81 82 rfl zki_0 ?_
    refine z_istore_n hX dX1_next_82 83 rfl (i := 3) rfl (Nat.le_of_ble_eq_true rfl) rfl (L' := [(0, .ref t), (1, .ref s), (2, .ref o), (3, .int 0)]) rfl ?_
    have E5 : ∀ G : zHG, zTo g G q t B N tk cp sh (x1_prices_pr N tk sh pr s_sold A K) fc gn ∧ zSt g G ks s bs s_sold s_fallen ∧ zSt g G ko o bo (x1_next_l83 N cp K ((x1_next_l23 N tk sh pr s_sold s_fallen A H K (x9_fill4_a_f o_sold 0, fc) H).1) A) ((x1_next_l23 N tk sh pr s_sold s_fallen A H K (x9_fill4_a_f o_sold 0, fc) H).2) ∧ zFrK [(q, 0), ko] G0 G → ZW g X 0 0 G 117 [(0, .ref t), (1, .ref s), (2, .ref o), (3, .int (nI A))] [] := by
      intro G hM
      exact z_vret hX hQ (Nat.zero_le _) (Nat.zero_le _) rfl dX1_next_117 ⟨rfl, hM⟩
    have Lp6 : ∀ k j4 : Nat, j4 + k = A → ∀ G : zHG, zTo g G q t B N tk cp sh (x1_prices_pr N tk sh pr s_sold A K) fc gn ∧ zSt g G ks s bs s_sold s_fallen ∧ zSt g G ko o bo (x1_next_l83 N cp K ((x1_next_l23 N tk sh pr s_sold s_fallen A H K (x9_fill4_a_f o_sold 0, fc) H).1) j4) ((x1_next_l23 N tk sh pr s_sold s_fallen A H K (x9_fill4_a_f o_sold 0, fc) H).2) ∧ zFrK [(q, 0), ko] G0 G → ZW g X 0 0 G 83 [(0, .ref t), (1, .ref s), (2, .ref o), (3, .int (nI j4))] [] := by
      intro k
      induction k with
      | zero =>
        intro j4 hj4 G hM
        rw [show j4 = A from by omega] at hM ⊢
        refine z_iload_n hX dX1_next_83 84 rfl (i := 3) rfl 3 rfl ?_
        refine z_aload_n hX dX1_next_84 85 rfl (i := 0) rfl 0 rfl ?_
        refine z_getf hX fX1_70 hM.1.o dX1_next_85 88 rfl (x := .int (nI A)) (congrArg (fun z => some (Value.int z)) hN.1) ?_
        refine z_icmp_geN hX A A (by omega) (by omega) dX1_next_88 91 rfl (tgt := 117) (by decide) (fun c7 => ?_) (fun c7 => ?_)
        · exact E5 _ hM
        · exact absurd c7 (by omega)
      | succ k ih =>
        intro j4 hj4 G hM
        refine z_iload_n hX dX1_next_83 84 rfl (i := 3) rfl 3 rfl ?_
        refine z_aload_n hX dX1_next_84 85 rfl (i := 0) rfl 0 rfl ?_
        refine z_getf hX fX1_70 hM.1.o dX1_next_85 88 rfl (x := .int (nI A)) (congrArg (fun z => some (Value.int z)) hN.1) ?_
        refine z_icmp_geN hX j4 A (by omega) (by omega) dX1_next_88 91 rfl (tgt := 117) (by decide) (fun c8 => ?_) (fun c8 => ?_)
        · exact absurd c8 (by omega)
        ·
          refine z_aload_n hX dX1_next_91 92 rfl (i := 2) rfl 2 rfl ?_
          refine z_getfN hX fX1_124 hM.2.2.1.o dX1_next_92 95 rfl (x := .ref bo) rfl ?_
          refine z_iload_n hX dX1_next_95 96 rfl (i := 3) rfl 3 rfl ?_
          refine z_aload_n hX dX1_next_96 97 rfl (i := 2) rfl 2 rfl ?_
          refine z_getfN hX fX1_124 hM.2.2.1.o dX1_next_97 100 rfl (x := .ref bo) rfl ?_
          refine z_iload_n hX dX1_next_100 101 rfl (i := 3) rfl 3 rfl ?_
          refine z_ialdF hX hM.2.2.1.2 (j := j4) (by omega) (by decide) dX1_next_101 102 rfl (w := (x1_next_l83 N cp K ((x1_next_l23 N tk sh pr s_sold s_fallen A H K (x9_fill4_a_f o_sold 0, fc) H).1) j4) j4) rfl ?_
          refine z_aload_n hX dX1_next_102 103 rfl (i := 0) rfl 0 rfl ?_
          refine z_iload_n hX dX1_next_103 104 rfl (i := 3) rfl 3 rfl ?_
          refine z_callVp hX cwX1_127 (w := .int (x1_cap N cp K j4)) (met_X1_cap hG hM.1 hN j4 (by omega)) hM.1.o rfl rfl dX1_next_104 107 rfl rfl rfl (Nat.le_of_ble_eq_true rfl) (by decide) ⟨Nat.zero_le _, Nat.zero_le _⟩ ?_
          refine z_mmin hX q589 q408 q113 q409 dX1_next_107 110 rfl (by decide) (Nat.le_of_ble_eq_true rfl) (by omega) (by omega) (w := (if (x1_cap N cp K j4) < ((x1_next_l83 N cp K ((x1_next_l23 N tk sh pr s_sold s_fallen A H K (x9_fill4_a_f o_sold 0, fc) H).1) j4) j4) then (x1_cap N cp K j4) else ((x1_next_l83 N cp K ((x1_next_l23 N tk sh pr s_sold s_fallen A H K (x9_fill4_a_f o_sold 0, fc) H).1) j4) j4) : Int32)) (by first | rfl | (split <;> split <;> first | rfl | omega | (exfalso; simp_all))) ?_
          refine s_ast_sold hX hM.2.2.1 h9_o j4 (by omega) dX1_next_110 111 rfl (fun G hw hf => ?_)
          have hM : zTo g G q t B N tk cp sh (x1_prices_pr N tk sh pr s_sold A K) fc gn ∧ zSt g G ks s bs s_sold s_fallen ∧ zSt g G ko o bo (upd (x1_next_l83 N cp K ((x1_next_l23 N tk sh pr s_sold s_fallen A H K (x9_fill4_a_f o_sold 0, fc) H).1) j4) j4 (if (x1_cap N cp K j4) < ((x1_next_l83 N cp K ((x1_next_l23 N tk sh pr s_sold s_fallen A H K (x9_fill4_a_f o_sold 0, fc) H).1) j4) j4) then (x1_cap N cp K j4) else ((x1_next_l83 N cp K ((x1_next_l23 N tk sh pr s_sold s_fallen A H K (x9_fill4_a_f o_sold 0, fc) H).1) j4) j4) : Int32)) ((x1_next_l23 N tk sh pr s_sold s_fallen A H K (x9_fill4_a_f o_sold 0, fc) H).2) ∧ zFrK [(q, 0), ko] G0 G := ⟨hM.1.kp (hf.kp (zni1 ne_t_o zni0)), hM.2.1.kp (hf.kp (zni1 ne_s_o zni0)), hw, hM.2.2.2.step hf (List.mem_cons_of_mem _ List.mem_cons_self)⟩
          refine z_iinc hX dX1_next_111 114 rfl 3 rfl (w := nI (j4 + 1)) (nI_1 j4) (Nat.le_of_ble_eq_true rfl) rfl (L' := [(0, .ref t), (1, .ref s), (2, .ref o), (3, .int (nI (j4 + 1)))]) rfl ?_
          refine z_goto hX dX1_next_114 (tgt := 83) (by decide) ?_
          exact ih (j4 + 1) (by omega) _ hM
    have hM : zTo g G q t B N tk cp sh (x1_prices_pr N tk sh pr s_sold A K) fc gn ∧ zSt g G ks s bs s_sold s_fallen ∧ zSt g G ko o bo (x1_next_l83 N cp K ((x1_next_l23 N tk sh pr s_sold s_fallen A H K (x9_fill4_a_f o_sold 0, fc) H).1) 0) ((x1_next_l23 N tk sh pr s_sold s_fallen A H K (x9_fill4_a_f o_sold 0, fc) H).2) ∧ zFrK [(q, 0), ko] G0 G := by simpa only [x1_next_l83_0] using hM
    exact Lp6 A 0 (by omega) _ hM
  have Lp3 : ∀ k j1 : Nat, j1 + k = H → ∀ G : zHG, zTo g G q t B N tk cp sh (x1_prices_pr N tk sh pr s_sold A K) fc gn ∧ zSt g G ks s bs s_sold s_fallen ∧ zSt g G ko o bo ((x1_next_l23 N tk sh pr s_sold s_fallen A H K (x9_fill4_a_f o_sold 0, fc) j1).1) ((x1_next_l23 N tk sh pr s_sold s_fallen A H K (x9_fill4_a_f o_sold 0, fc) j1).2) ∧ zFrK [(q, 0), ko] G0 G → ZW g X 0 0 G 23 [(0, .ref t), (1, .ref s), (2, .ref o), (3, .int (nI j1))] [] := by
    intro k
    induction k with
    | zero =>
      intro j1 hj1 G hM
      rw [show j1 = H from by omega] at hM ⊢
      refine z_iload_n hX dX1_next_23 24 rfl (i := 3) rfl 3 rfl ?_
      refine z_aload_n hX dX1_next_24 25 rfl (i := 0) rfl 0 rfl ?_
      refine z_getf hX fX1_74 hM.1.o dX1_next_25 28 rfl (x := .int (nI H)) (congrArg (fun z => some (Value.int z)) hN.2.2.1) ?_
      refine z_icmp_geN hX H H (by omega) (by omega) dX1_next_28 31 rfl (tgt := 81) (by decide) (fun c9 => ?_) (fun c9 => ?_)
      · exact E2 _ hM
      · exact absurd c9 (by omega)
    | succ k ih =>
      intro j1 hj1 G hM
      refine z_iload_n hX dX1_next_23 24 rfl (i := 3) rfl 3 rfl ?_
      refine z_aload_n hX dX1_next_24 25 rfl (i := 0) rfl 0 rfl ?_
      refine z_getf hX fX1_74 hM.1.o dX1_next_25 28 rfl (x := .int (nI H)) (congrArg (fun z => some (Value.int z)) hN.2.2.1) ?_
      refine z_icmp_geN hX j1 H (by omega) (by omega) dX1_next_28 31 rfl (tgt := 81) (by decide) (fun c10 => ?_) (fun c10 => ?_)
      · exact absurd c10 (by omega)
      ·
        refine z_aload_n hX dX1_next_31 32 rfl (i := 0) rfl 0 rfl ?_
        refine z_iload_n hX dX1_next_32 33 rfl (i := 3) rfl 3 rfl ?_
        refine z_aload_n hX dX1_next_33 34 rfl (i := 1) rfl 1 rfl ?_
        refine z_getfN hX fX1_121 hM.2.1.o dX1_next_34 37 rfl (x := .int s_fallen) rfl ?_
        refine z_callVp hX cwX1_147 (w := .int (x1_worth N (x1_prices_pr N tk sh pr s_sold A K) A H j1 s_fallen)) (met_X1_worth hG hM.1 hN j1 s_fallen (by omega)) hM.1.o rfl rfl dX1_next_37 40 rfl rfl rfl (Nat.le_of_ble_eq_true rfl) (by decide) ⟨Nat.zero_le _, Nat.zero_le _⟩ ?_
        refine z_istore hX dX1_next_40 42 rfl (Nat.le_of_ble_eq_true rfl) rfl (L' := [(0, .ref t), (1, .ref s), (2, .ref o), (3, .int (nI j1)), (4, .int (x1_worth N (x1_prices_pr N tk sh pr s_sold A K) A H j1 s_fallen))]) rfl ?_
        refine z_iload hX dX1_next_42 44 rfl 4 rfl ?_
        have J12 : ∀ G : zHG, zTo g G q t B N tk cp sh (x1_prices_pr N tk sh pr s_sold A K) fc gn ∧ zSt g G ks s bs s_sold s_fallen ∧ zSt g G ko o bo ((x1_next_l23 N tk sh pr s_sold s_fallen A H K (x9_fill4_a_f o_sold 0, fc) j1).1) (if 0 ≤ (x1_worth N (x1_prices_pr N tk sh pr s_sold A K) A H j1 s_fallen) then (x1_next_l23 N tk sh pr s_sold s_fallen A H K (x9_fill4_a_f o_sold 0, fc) j1).2 else ((x1_next_l23 N tk sh pr s_sold s_fallen A H K (x9_fill4_a_f o_sold 0, fc) j1).2) ||| ((1 : Int32) <<< ((nI j1) &&& 31))) ∧ zFrK [(q, 0), ko] G0 G → ZW g X 0 0 G 59 [(0, .ref t), (1, .ref s), (2, .ref o), (3, .int (nI j1)), (4, .int (x1_worth N (x1_prices_pr N tk sh pr s_sold A K) A H j1 s_fallen))] [] := by
          intro G hM
          refine z_aload_n hX dX1_next_59 60 rfl (i := 0) rfl 0 rfl ?_
          refine z_iload_n hX dX1_next_60 61 rfl (i := 3) rfl 3 rfl ?_
          refine z_aload_n hX dX1_next_61 62 rfl (i := 0) rfl 0 rfl ?_
          refine z_iload_n hX dX1_next_62 63 rfl (i := 3) rfl 3 rfl ?_
          refine z_iload hX dX1_next_63 65 rfl 4 rfl ?_
          refine z_callVp hX cwX1_155 (w := .int (x1_mustSell N j1 (x1_worth N (x1_prices_pr N tk sh pr s_sold A K) A H j1 s_fallen))) (met_X1_mustSell hG hM.1 hN j1 (x1_worth N (x1_prices_pr N tk sh pr s_sold A K) A H j1 s_fallen) (by omega)) hM.1.o rfl rfl dX1_next_65 68 rfl rfl rfl (Nat.le_of_ble_eq_true rfl) (by decide) ⟨Nat.zero_le _, Nat.zero_le _⟩ ?_
          refine z_aload_n hX dX1_next_68 69 rfl (i := 2) rfl 2 rfl ?_
          refine z_getfN hX fX1_124 hM.2.2.1.o dX1_next_69 72 rfl (x := .ref bo) rfl ?_
          refine z_callV hX cwX1_160 (met_X1_sells hG hM.1 hM.2.2.1.2 hN (by rw [(zkyS ko 1 (by decide))]; exact h9_o) (by rw [(zkyS ko 1 (by decide))]; exact ne_t_o) j1 (x1_mustSell N j1 (x1_worth N (x1_prices_pr N tk sh pr s_sold A K) A H j1 s_fallen)) (by omega)) hM.1.o rfl rfl dX1_next_72 75 rfl rfl rfl (Nat.le_of_ble_eq_true rfl) (by decide) ⟨by omega, by omega⟩ (fun r G hP => ?_)
          obtain ⟨rfl, hP⟩ := hP
          have hfK : zFrK [ko] _ G := hP.2.2.toK (zkyS ko 1 (by decide)) h9_o
          have hM : zTo g G q t B N tk cp sh (x1_prices_pr N tk sh pr s_sold A K) fc gn ∧ zSt g G ks s bs s_sold s_fallen ∧ zSt g G ko o bo (x1_sells_onto_f N ((x1_next_l23 N tk sh pr s_sold s_fallen A H K (x9_fill4_a_f o_sold 0, fc) j1).1) A j1 (x1_mustSell N j1 (x1_worth N (x1_prices_pr N tk sh pr s_sold A K) A H j1 s_fallen))) (if 0 ≤ (x1_worth N (x1_prices_pr N tk sh pr s_sold A K) A H j1 s_fallen) then (x1_next_l23 N tk sh pr s_sold s_fallen A H K (x9_fill4_a_f o_sold 0, fc) j1).2 else ((x1_next_l23 N tk sh pr s_sold s_fallen A H K (x9_fill4_a_f o_sold 0, fc) j1).2) ||| ((1 : Int32) <<< ((nI j1) &&& 31))) ∧ zFrK [(q, 0), ko] G0 G := ⟨hP.1, hM.2.1.kp (hfK.kp (zni1 ne_s_o zni0)), ⟨hP.2.2 _ _ _ hM.2.2.1.1 (zlb (by omega)), hP.2.1⟩, hM.2.2.2.step hfK (List.mem_cons_of_mem _ List.mem_cons_self)⟩
          show ZW g X 0 0 G 75 [(0, .ref t), (1, .ref s), (2, .ref o), (3, .int (nI j1)), (4, .int (x1_worth N (x1_prices_pr N tk sh pr s_sold A K) A H j1 s_fallen))] []
          refine z_iinc hX dX1_next_75 78 rfl 3 rfl (w := nI (j1 + 1)) (nI_1 j1) (Nat.le_of_ble_eq_true rfl) rfl (L' := [(0, .ref t), (1, .ref s), (2, .ref o), (3, .int (nI (j1 + 1))), (4, .int (x1_worth N (x1_prices_pr N tk sh pr s_sold A K) A H j1 s_fallen))]) rfl ?_
          refine z_goto hX dX1_next_78 (tgt := 23) (by decide) ?_
          refine z_sub [0, 1, 2, 3] rfl ?_
          exact ih (j1 + 1) (by omega) _ hM
        refine z_if_ge hX dX1_next_44 47 rfl (tgt := 59) (by decide) (fun c11 => ?_) (fun c11 => ?_)
        ·
          exact z_eqL rfl rfl (J12 _ (by first | (simpa only [if_pos c11] using hM) | ((try simp only [if_pos c11]); exact hM)))
        ·
          refine z_aload_n hX dX1_next_47 48 rfl (i := 2) rfl 2 rfl ?_
          refine z_dup hX dX1_next_48 49 rfl rfl ?_
          refine z_getfN hX fX1_121 hM.2.2.1.o dX1_next_49 52 rfl (x := .int ((x1_next_l23 N tk sh pr s_sold s_fallen A H K (x9_fill4_a_f o_sold 0, fc) j1).2)) rfl ?_
          refine z_iconst hX dX1_next_52 53 rfl zki_1 ?_
          refine z_iload_n hX dX1_next_53 54 rfl (i := 3) rfl 3 rfl ?_
          refine z_ishl hX dX1_next_54 55 rfl (w := (1 : Int32) <<< ((nI j1) &&& 31)) rfl ?_
          refine z_ior hX dX1_next_55 56 rfl (w := ((x1_next_l23 N tk sh pr s_sold s_fallen A H K (x9_fill4_a_f o_sold 0, fc) j1).2) ||| ((1 : Int32) <<< ((nI j1) &&& 31))) rfl ?_
          refine s_put_fallenN hX hM.2.2.1 h9_o fX1_121 dX1_next_56 59 rfl (fun G hw hf => ?_)
          have hM : zTo g G q t B N tk cp sh (x1_prices_pr N tk sh pr s_sold A K) fc gn ∧ zSt g G ks s bs s_sold s_fallen ∧ zSt g G ko o bo ((x1_next_l23 N tk sh pr s_sold s_fallen A H K (x9_fill4_a_f o_sold 0, fc) j1).1) (((x1_next_l23 N tk sh pr s_sold s_fallen A H K (x9_fill4_a_f o_sold 0, fc) j1).2) ||| ((1 : Int32) <<< ((nI j1) &&& 31))) ∧ zFrK [(q, 0), ko] G0 G := ⟨hM.1.kp (hf.kp (zni1 ne_t_o zni0)), hM.2.1.kp (hf.kp (zni1 ne_s_o zni0)), hw, hM.2.2.2.step hf (List.mem_cons_of_mem _ List.mem_cons_self)⟩
          exact z_eqL rfl rfl (J12 _ (by first | (simpa only [if_neg c11] using hM) | ((try simp only [if_neg c11]); exact hM)))
  have hM : zTo g G q t B N tk cp sh (x1_prices_pr N tk sh pr s_sold A K) fc gn ∧ zSt g G ks s bs s_sold s_fallen ∧ zSt g G ko o bo ((x1_next_l23 N tk sh pr s_sold s_fallen A H K (x9_fill4_a_f o_sold 0, fc) 0).1) ((x1_next_l23 N tk sh pr s_sold s_fallen A H K (x9_fill4_a_f o_sold 0, fc) 0).2) ∧ zFrK [(q, 0), ko] G0 G := by simpa only [x1_next_l23_0] using hM
  exact Lp3 H 0 (by omega) _ hM
