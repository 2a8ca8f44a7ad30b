set_option maxRecDepth 100000
def dkwX1_init_7 : List UInt8 := [181, 0, 57, 42, 7, 188, 10, 181, 0, 60, 177]
abbrev dktX1_init_7 : List UInt8 := dkwX1_init_7 ++ []
def dkwX1_init_6 : List UInt8 := [188, 10, 181, 0, 47, 42, 187, 0, 50, 89, 183, 0, 52, 181, 0, 53, 42, 187, 0, 50, 89, 183, 0, 52]
abbrev dktX1_init_6 : List UInt8 := dkwX1_init_6 ++ dktX1_init_7
def dkwX1_init_5 : List UInt8 := [89, 4, 17, 1, 104, 79, 89, 5, 17, 1, 104, 79, 89, 6, 17, 1, 104, 79, 181, 0, 44, 42, 7]
abbrev dktX1_init_5 : List UInt8 := dkwX1_init_5 ++ dktX1_init_6
def dkwX1_init_4 : List UInt8 := [183, 0, 29, 83, 181, 0, 36, 42, 7, 188, 10, 181, 0, 40, 42, 7, 188, 10, 89, 3, 17, 1, 104, 79]
abbrev dktX1_init_4 : List UInt8 := dkwX1_init_4 ++ dktX1_init_5
def dkwX1_init_3 : List UInt8 := [187, 0, 25, 89, 7, 189, 0, 32, 183, 0, 29, 83, 89, 5, 187, 0, 25, 89, 7, 189, 0, 34]
abbrev dktX1_init_3 : List UInt8 := dkwX1_init_3 ++ dktX1_init_4
def dkwX1_init_2 : List UInt8 := [181, 0, 22, 42, 6, 189, 0, 25, 89, 3, 187, 0, 25, 89, 7, 189, 0, 27, 183, 0, 29, 83, 89, 4]
abbrev dktX1_init_2 : List UInt8 := dkwX1_init_2 ++ dktX1_init_3
def dkwX1_init_1 : List UInt8 := [181, 0, 16, 42, 16, 6, 7, 197, 0, 9, 2, 181, 0, 19, 42, 16, 6, 16, 6, 197, 0, 9, 2]
abbrev dktX1_init_1 : List UInt8 := dkwX1_init_1 ++ dktX1_init_2
def dkwX1_init_0 : List UInt8 := [42, 183, 0, 3, 42, 7, 5, 197, 0, 9, 2, 181, 0, 11, 42, 16, 6, 8, 197, 0, 9, 2]
abbrev dktX1_init_0 : List UInt8 := dkwX1_init_0 ++ dktX1_init_1
theorem dksX1_init_0 : cX1_init.data.toList.drop 0 = dktX1_init_0 := by decide +kernel
theorem dksX1_init_1 : cX1_init.data.toList.drop 22 = dktX1_init_1 := dk_seg dksX1_init_0 22 rfl rfl
theorem dksX1_init_2 : cX1_init.data.toList.drop 45 = dktX1_init_2 := dk_seg dksX1_init_1 23 rfl rfl
theorem dksX1_init_3 : cX1_init.data.toList.drop 69 = dktX1_init_3 := dk_seg dksX1_init_2 24 rfl rfl
theorem dksX1_init_4 : cX1_init.data.toList.drop 91 = dktX1_init_4 := dk_seg dksX1_init_3 22 rfl rfl
theorem dksX1_init_5 : cX1_init.data.toList.drop 115 = dktX1_init_5 := dk_seg dksX1_init_4 24 rfl rfl
theorem dksX1_init_6 : cX1_init.data.toList.drop 138 = dktX1_init_6 := dk_seg dksX1_init_5 23 rfl rfl
theorem dksX1_init_7 : cX1_init.data.toList.drop 162 = dktX1_init_7 := dk_seg dksX1_init_6 24 rfl rfl
theorem dX1_init_0 : decode cX1_init 0 = .ok (.aload_n 0, 1) := dk_42 (dk_at dksX1_init_0 0 rfl rfl)
theorem dX1_init_1 : decode cX1_init 1 = .ok (.invokespecial 3, 3) := dk_183 0 3 (dk_at dksX1_init_0 1 rfl rfl)
theorem dX1_init_4 : decode cX1_init 4 = .ok (.aload_n 0, 1) := dk_42 (dk_at dksX1_init_0 4 rfl rfl)
theorem dX1_init_5 : decode cX1_init 5 = .ok (.iconst 4, 1) := dk_7 (dk_at dksX1_init_0 5 rfl rfl)
theorem dX1_init_6 : decode cX1_init 6 = .ok (.iconst 2, 1) := dk_5 (dk_at dksX1_init_0 6 rfl rfl)
theorem dX1_init_7 : decode cX1_init 7 = .ok (.multianewarray 9 2, 4) := by decide +kernel
theorem dX1_init_11 : decode cX1_init 11 = .ok (.putfield 11, 3) := dk_181 0 11 (dk_at dksX1_init_0 11 rfl rfl)
theorem dX1_init_14 : decode cX1_init 14 = .ok (.aload_n 0, 1) := dk_42 (dk_at dksX1_init_0 14 rfl rfl)
theorem dX1_init_15 : decode cX1_init 15 = .ok (.bipush 6, 2) := dk_16 6 (dk_at dksX1_init_0 15 rfl rfl)
theorem dX1_init_17 : decode cX1_init 17 = .ok (.iconst 5, 1) := dk_8 (dk_at dksX1_init_0 17 rfl rfl)
theorem dX1_init_18 : decode cX1_init 18 = .ok (.multianewarray 9 2, 4) := by decide +kernel
theorem dX1_init_22 : decode cX1_init 22 = .ok (.putfield 16, 3) := dk_181 0 16 (dk_at dksX1_init_1 0 rfl rfl)
theorem dX1_init_25 : decode cX1_init 25 = .ok (.aload_n 0, 1) := dk_42 (dk_at dksX1_init_1 3 rfl rfl)
theorem dX1_init_26 : decode cX1_init 26 = .ok (.bipush 6, 2) := dk_16 6 (dk_at dksX1_init_1 4 rfl rfl)
theorem dX1_init_28 : decode cX1_init 28 = .ok (.iconst 4, 1) := dk_7 (dk_at dksX1_init_1 6 rfl rfl)
theorem dX1_init_29 : decode cX1_init 29 = .ok (.multianewarray 9 2, 4) := by decide +kernel
theorem dX1_init_33 : decode cX1_init 33 = .ok (.putfield 19, 3) := dk_181 0 19 (dk_at dksX1_init_1 11 rfl rfl)
theorem dX1_init_36 : decode cX1_init 36 = .ok (.aload_n 0, 1) := dk_42 (dk_at dksX1_init_1 14 rfl rfl)
theorem dX1_init_37 : decode cX1_init 37 = .ok (.bipush 6, 2) := dk_16 6 (dk_at dksX1_init_1 15 rfl rfl)
theorem dX1_init_39 : decode cX1_init 39 = .ok (.bipush 6, 2) := dk_16 6 (dk_at dksX1_init_1 17 rfl rfl)
theorem dX1_init_41 : decode cX1_init 41 = .ok (.multianewarray 9 2, 4) := by decide +kernel
theorem dX1_init_45 : decode cX1_init 45 = .ok (.putfield 22, 3) := dk_181 0 22 (dk_at dksX1_init_2 0 rfl rfl)
theorem dX1_init_48 : decode cX1_init 48 = .ok (.aload_n 0, 1) := dk_42 (dk_at dksX1_init_2 3 rfl rfl)
theorem dX1_init_49 : decode cX1_init 49 = .ok (.iconst 3, 1) := dk_6 (dk_at dksX1_init_2 4 rfl rfl)
theorem dX1_init_50 : decode cX1_init 50 = .ok (.anewarray 25, 3) := dk_189 0 25 (dk_at dksX1_init_2 5 rfl rfl)
theorem dX1_init_53 : decode cX1_init 53 = .ok (.dup, 1) := dk_89 (dk_at dksX1_init_2 8 rfl rfl)
theorem dX1_init_54 : decode cX1_init 54 = .ok (.iconst 0, 1) := dk_3 (dk_at dksX1_init_2 9 rfl rfl)
theorem dX1_init_55 : decode cX1_init 55 = .ok (.new 25, 3) := dk_187 0 25 (dk_at dksX1_init_2 10 rfl rfl)
theorem dX1_init_58 : decode cX1_init 58 = .ok (.dup, 1) := dk_89 (dk_at dksX1_init_2 13 rfl rfl)
theorem dX1_init_59 : decode cX1_init 59 = .ok (.iconst 4, 1) := dk_7 (dk_at dksX1_init_2 14 rfl rfl)
theorem dX1_init_60 : decode cX1_init 60 = .ok (.anewarray 27, 3) := dk_189 0 27 (dk_at dksX1_init_2 15 rfl rfl)
theorem dX1_init_63 : decode cX1_init 63 = .ok (.invokespecial 29, 3) := dk_183 0 29 (dk_at dksX1_init_2 18 rfl rfl)
theorem dX1_init_66 : decode cX1_init 66 = .ok (.aastore, 1) := dk_83 (dk_at dksX1_init_2 21 rfl rfl)
theorem dX1_init_67 : decode cX1_init 67 = .ok (.dup, 1) := dk_89 (dk_at dksX1_init_2 22 rfl rfl)
theorem dX1_init_68 : decode cX1_init 68 = .ok (.iconst 1, 1) := dk_4 (dk_at dksX1_init_2 23 rfl rfl)
theorem dX1_init_69 : decode cX1_init 69 = .ok (.new 25, 3) := dk_187 0 25 (dk_at dksX1_init_3 0 rfl rfl)
theorem dX1_init_72 : decode cX1_init 72 = .ok (.dup, 1) := dk_89 (dk_at dksX1_init_3 3 rfl rfl)
theorem dX1_init_73 : decode cX1_init 73 = .ok (.iconst 4, 1) := dk_7 (dk_at dksX1_init_3 4 rfl rfl)
theorem dX1_init_74 : decode cX1_init 74 = .ok (.anewarray 32, 3) := dk_189 0 32 (dk_at dksX1_init_3 5 rfl rfl)
theorem dX1_init_77 : decode cX1_init 77 = .ok (.invokespecial 29, 3) := dk_183 0 29 (dk_at dksX1_init_3 8 rfl rfl)
theorem dX1_init_80 : decode cX1_init 80 = .ok (.aastore, 1) := dk_83 (dk_at dksX1_init_3 11 rfl rfl)
theorem dX1_init_81 : decode cX1_init 81 = .ok (.dup, 1) := dk_89 (dk_at dksX1_init_3 12 rfl rfl)
theorem dX1_init_82 : decode cX1_init 82 = .ok (.iconst 2, 1) := dk_5 (dk_at dksX1_init_3 13 rfl rfl)
theorem dX1_init_83 : decode cX1_init 83 = .ok (.new 25, 3) := dk_187 0 25 (dk_at dksX1_init_3 14 rfl rfl)
theorem dX1_init_86 : decode cX1_init 86 = .ok (.dup, 1) := dk_89 (dk_at dksX1_init_3 17 rfl rfl)
theorem dX1_init_87 : decode cX1_init 87 = .ok (.iconst 4, 1) := dk_7 (dk_at dksX1_init_3 18 rfl rfl)
theorem dX1_init_88 : decode cX1_init 88 = .ok (.anewarray 34, 3) := dk_189 0 34 (dk_at dksX1_init_3 19 rfl rfl)
theorem dX1_init_91 : decode cX1_init 91 = .ok (.invokespecial 29, 3) := dk_183 0 29 (dk_at dksX1_init_4 0 rfl rfl)
theorem dX1_init_94 : decode cX1_init 94 = .ok (.aastore, 1) := dk_83 (dk_at dksX1_init_4 3 rfl rfl)
theorem dX1_init_95 : decode cX1_init 95 = .ok (.putfield 36, 3) := dk_181 0 36 (dk_at dksX1_init_4 4 rfl rfl)
theorem dX1_init_98 : decode cX1_init 98 = .ok (.aload_n 0, 1) := dk_42 (dk_at dksX1_init_4 7 rfl rfl)
theorem dX1_init_99 : decode cX1_init 99 = .ok (.iconst 4, 1) := dk_7 (dk_at dksX1_init_4 8 rfl rfl)
theorem dX1_init_100 : decode cX1_init 100 = .ok (.newarray .int, 2) := dk_188_10 (dk_at dksX1_init_4 9 rfl rfl)
theorem dX1_init_102 : decode cX1_init 102 = .ok (.putfield 40, 3) := dk_181 0 40 (dk_at dksX1_init_4 11 rfl rfl)
theorem dX1_init_105 : decode cX1_init 105 = .ok (.aload_n 0, 1) := dk_42 (dk_at dksX1_init_4 14 rfl rfl)
theorem dX1_init_106 : decode cX1_init 106 = .ok (.iconst 4, 1) := dk_7 (dk_at dksX1_init_4 15 rfl rfl)
theorem dX1_init_107 : decode cX1_init 107 = .ok (.newarray .int, 2) := dk_188_10 (dk_at dksX1_init_4 16 rfl rfl)
theorem dX1_init_109 : decode cX1_init 109 = .ok (.dup, 1) := dk_89 (dk_at dksX1_init_4 18 rfl rfl)
theorem dX1_init_110 : decode cX1_init 110 = .ok (.iconst 0, 1) := dk_3 (dk_at dksX1_init_4 19 rfl rfl)
theorem dX1_init_111 : decode cX1_init 111 = .ok (.sipush 360, 3) := dk_17 1 104 (dk_at dksX1_init_4 20 rfl rfl)
theorem dX1_init_114 : decode cX1_init 114 = .ok (.iastore, 1) := dk_79 (dk_at dksX1_init_4 23 rfl rfl)
theorem dX1_init_115 : decode cX1_init 115 = .ok (.dup, 1) := dk_89 (dk_at dksX1_init_5 0 rfl rfl)
theorem dX1_init_116 : decode cX1_init 116 = .ok (.iconst 1, 1) := dk_4 (dk_at dksX1_init_5 1 rfl rfl)
theorem dX1_init_117 : decode cX1_init 117 = .ok (.sipush 360, 3) := dk_17 1 104 (dk_at dksX1_init_5 2 rfl rfl)
theorem dX1_init_120 : decode cX1_init 120 = .ok (.iastore, 1) := dk_79 (dk_at dksX1_init_5 5 rfl rfl)
theorem dX1_init_121 : decode cX1_init 121 = .ok (.dup, 1) := dk_89 (dk_at dksX1_init_5 6 rfl rfl)
theorem dX1_init_122 : decode cX1_init 122 = .ok (.iconst 2, 1) := dk_5 (dk_at dksX1_init_5 7 rfl rfl)
theorem dX1_init_123 : decode cX1_init 123 = .ok (.sipush 360, 3) := dk_17 1 104 (dk_at dksX1_init_5 8 rfl rfl)
theorem dX1_init_126 : decode cX1_init 126 = .ok (.iastore, 1) := dk_79 (dk_at dksX1_init_5 11 rfl rfl)
theorem dX1_init_127 : decode cX1_init 127 = .ok (.dup, 1) := dk_89 (dk_at dksX1_init_5 12 rfl rfl)
theorem dX1_init_128 : decode cX1_init 128 = .ok (.iconst 3, 1) := dk_6 (dk_at dksX1_init_5 13 rfl rfl)
theorem dX1_init_129 : decode cX1_init 129 = .ok (.sipush 360, 3) := dk_17 1 104 (dk_at dksX1_init_5 14 rfl rfl)
theorem dX1_init_132 : decode cX1_init 132 = .ok (.iastore, 1) := dk_79 (dk_at dksX1_init_5 17 rfl rfl)
theorem dX1_init_133 : decode cX1_init 133 = .ok (.putfield 44, 3) := dk_181 0 44 (dk_at dksX1_init_5 18 rfl rfl)
theorem dX1_init_136 : decode cX1_init 136 = .ok (.aload_n 0, 1) := dk_42 (dk_at dksX1_init_5 21 rfl rfl)
theorem dX1_init_137 : decode cX1_init 137 = .ok (.iconst 4, 1) := dk_7 (dk_at dksX1_init_5 22 rfl rfl)
theorem dX1_init_138 : decode cX1_init 138 = .ok (.newarray .int, 2) := dk_188_10 (dk_at dksX1_init_6 0 rfl rfl)
theorem dX1_init_140 : decode cX1_init 140 = .ok (.putfield 47, 3) := dk_181 0 47 (dk_at dksX1_init_6 2 rfl rfl)
theorem dX1_init_143 : decode cX1_init 143 = .ok (.aload_n 0, 1) := dk_42 (dk_at dksX1_init_6 5 rfl rfl)
theorem dX1_init_144 : decode cX1_init 144 = .ok (.new 50, 3) := dk_187 0 50 (dk_at dksX1_init_6 6 rfl rfl)
theorem dX1_init_147 : decode cX1_init 147 = .ok (.dup, 1) := dk_89 (dk_at dksX1_init_6 9 rfl rfl)
theorem dX1_init_148 : decode cX1_init 148 = .ok (.invokespecial 52, 3) := dk_183 0 52 (dk_at dksX1_init_6 10 rfl rfl)
theorem dX1_init_151 : decode cX1_init 151 = .ok (.putfield 53, 3) := dk_181 0 53 (dk_at dksX1_init_6 13 rfl rfl)
theorem dX1_init_154 : decode cX1_init 154 = .ok (.aload_n 0, 1) := dk_42 (dk_at dksX1_init_6 16 rfl rfl)
theorem dX1_init_155 : decode cX1_init 155 = .ok (.new 50, 3) := dk_187 0 50 (dk_at dksX1_init_6 17 rfl rfl)
theorem dX1_init_158 : decode cX1_init 158 = .ok (.dup, 1) := dk_89 (dk_at dksX1_init_6 20 rfl rfl)
theorem dX1_init_159 : decode cX1_init 159 = .ok (.invokespecial 52, 3) := dk_183 0 52 (dk_at dksX1_init_6 21 rfl rfl)
theorem dX1_init_162 : decode cX1_init 162 = .ok (.putfield 57, 3) := dk_181 0 57 (dk_at dksX1_init_7 0 rfl rfl)
theorem dX1_init_165 : decode cX1_init 165 = .ok (.aload_n 0, 1) := dk_42 (dk_at dksX1_init_7 3 rfl rfl)
theorem dX1_init_166 : decode cX1_init 166 = .ok (.iconst 4, 1) := dk_7 (dk_at dksX1_init_7 4 rfl rfl)
theorem dX1_init_167 : decode cX1_init 167 = .ok (.newarray .int, 2) := dk_188_10 (dk_at dksX1_init_7 5 rfl rfl)
theorem dX1_init_169 : decode cX1_init 169 = .ok (.putfield 60, 3) := dk_181 0 60 (dk_at dksX1_init_7 7 rfl rfl)
theorem dX1_init_172 : decode cX1_init 172 = .ok (.return_, 1) := dk_177 (dk_at dksX1_init_7 10 rfl rfl)
def dkwX1_copy_4 : List UInt8 := [42, 180, 0, 36, 28, 50, 182, 0, 83, 83, 132, 2, 1, 167, 255, 233, 43, 176]
abbrev dktX1_copy_4 : List UInt8 := dkwX1_copy_4 ++ []
def dkwX1_copy_3 : List UInt8 := [180, 0, 36, 182, 0, 81, 192, 0, 82, 181, 0, 36, 3, 61, 28, 6, 162, 0, 24, 43, 180, 0, 36, 28]
abbrev dktX1_copy_3 : List UInt8 := dkwX1_copy_3 ++ dktX1_copy_4
def dkwX1_copy_2 : List UInt8 := [180, 0, 19, 184, 0, 77, 181, 0, 19, 43, 42, 180, 0, 22, 184, 0, 77, 181, 0, 22, 43, 42]
abbrev dktX1_copy_2 : List UInt8 := dkwX1_copy_2 ++ dktX1_copy_3
def dkwX1_copy_1 : List UInt8 := [43, 42, 180, 0, 11, 184, 0, 77, 181, 0, 11, 43, 42, 180, 0, 16, 184, 0, 77, 181, 0, 16, 43, 42]
abbrev dktX1_copy_1 : List UInt8 := dkwX1_copy_1 ++ dktX1_copy_2
def dkwX1_copy_0 : List UInt8 := [187, 0, 12, 89, 183, 0, 69, 76, 43, 42, 180, 0, 70, 181, 0, 70, 43, 42, 180, 0, 74, 181, 0, 74]
abbrev dktX1_copy_0 : List UInt8 := dkwX1_copy_0 ++ dktX1_copy_1
theorem dksX1_copy_0 : cX1_copy.data.toList.drop 0 = dktX1_copy_0 := by decide +kernel
theorem dksX1_copy_1 : cX1_copy.data.toList.drop 24 = dktX1_copy_1 := dk_seg dksX1_copy_0 24 rfl rfl
theorem dksX1_copy_2 : cX1_copy.data.toList.drop 48 = dktX1_copy_2 := dk_seg dksX1_copy_1 24 rfl rfl
theorem dksX1_copy_3 : cX1_copy.data.toList.drop 70 = dktX1_copy_3 := dk_seg dksX1_copy_2 22 rfl rfl
theorem dksX1_copy_4 : cX1_copy.data.toList.drop 94 = dktX1_copy_4 := dk_seg dksX1_copy_3 24 rfl rfl
theorem dX1_copy_0 : decode cX1_copy 0 = .ok (.new 12, 3) := dk_187 0 12 (dk_at dksX1_copy_0 0 rfl rfl)
theorem dX1_copy_3 : decode cX1_copy 3 = .ok (.dup, 1) := dk_89 (dk_at dksX1_copy_0 3 rfl rfl)
theorem dX1_copy_4 : decode cX1_copy 4 = .ok (.invokespecial 69, 3) := dk_183 0 69 (dk_at dksX1_copy_0 4 rfl rfl)
theorem dX1_copy_7 : decode cX1_copy 7 = .ok (.astore_n 1, 1) := dk_76 (dk_at dksX1_copy_0 7 rfl rfl)
theorem dX1_copy_8 : decode cX1_copy 8 = .ok (.aload_n 1, 1) := dk_43 (dk_at dksX1_copy_0 8 rfl rfl)
theorem dX1_copy_9 : decode cX1_copy 9 = .ok (.aload_n 0, 1) := dk_42 (dk_at dksX1_copy_0 9 rfl rfl)
theorem dX1_copy_10 : decode cX1_copy 10 = .ok (.getfield 70, 3) := dk_180 0 70 (dk_at dksX1_copy_0 10 rfl rfl)
theorem dX1_copy_13 : decode cX1_copy 13 = .ok (.putfield 70, 3) := dk_181 0 70 (dk_at dksX1_copy_0 13 rfl rfl)
theorem dX1_copy_16 : decode cX1_copy 16 = .ok (.aload_n 1, 1) := dk_43 (dk_at dksX1_copy_0 16 rfl rfl)
theorem dX1_copy_17 : decode cX1_copy 17 = .ok (.aload_n 0, 1) := dk_42 (dk_at dksX1_copy_0 17 rfl rfl)
theorem dX1_copy_18 : decode cX1_copy 18 = .ok (.getfield 74, 3) := dk_180 0 74 (dk_at dksX1_copy_0 18 rfl rfl)
theorem dX1_copy_21 : decode cX1_copy 21 = .ok (.putfield 74, 3) := dk_181 0 74 (dk_at dksX1_copy_0 21 rfl rfl)
theorem dX1_copy_24 : decode cX1_copy 24 = .ok (.aload_n 1, 1) := dk_43 (dk_at dksX1_copy_1 0 rfl rfl)
theorem dX1_copy_25 : decode cX1_copy 25 = .ok (.aload_n 0, 1) := dk_42 (dk_at dksX1_copy_1 1 rfl rfl)
theorem dX1_copy_26 : decode cX1_copy 26 = .ok (.getfield 11, 3) := dk_180 0 11 (dk_at dksX1_copy_1 2 rfl rfl)
theorem dX1_copy_29 : decode cX1_copy 29 = .ok (.invokestatic 77, 3) := dk_184 0 77 (dk_at dksX1_copy_1 5 rfl rfl)
theorem dX1_copy_32 : decode cX1_copy 32 = .ok (.putfield 11, 3) := dk_181 0 11 (dk_at dksX1_copy_1 8 rfl rfl)
theorem dX1_copy_35 : decode cX1_copy 35 = .ok (.aload_n 1, 1) := dk_43 (dk_at dksX1_copy_1 11 rfl rfl)
theorem dX1_copy_36 : decode cX1_copy 36 = .ok (.aload_n 0, 1) := dk_42 (dk_at dksX1_copy_1 12 rfl rfl)
theorem dX1_copy_37 : decode cX1_copy 37 = .ok (.getfield 16, 3) := dk_180 0 16 (dk_at dksX1_copy_1 13 rfl rfl)
theorem dX1_copy_40 : decode cX1_copy 40 = .ok (.invokestatic 77, 3) := dk_184 0 77 (dk_at dksX1_copy_1 16 rfl rfl)
theorem dX1_copy_43 : decode cX1_copy 43 = .ok (.putfield 16, 3) := dk_181 0 16 (dk_at dksX1_copy_1 19 rfl rfl)
theorem dX1_copy_46 : decode cX1_copy 46 = .ok (.aload_n 1, 1) := dk_43 (dk_at dksX1_copy_1 22 rfl rfl)
theorem dX1_copy_47 : decode cX1_copy 47 = .ok (.aload_n 0, 1) := dk_42 (dk_at dksX1_copy_1 23 rfl rfl)
theorem dX1_copy_48 : decode cX1_copy 48 = .ok (.getfield 19, 3) := dk_180 0 19 (dk_at dksX1_copy_2 0 rfl rfl)
theorem dX1_copy_51 : decode cX1_copy 51 = .ok (.invokestatic 77, 3) := dk_184 0 77 (dk_at dksX1_copy_2 3 rfl rfl)
theorem dX1_copy_54 : decode cX1_copy 54 = .ok (.putfield 19, 3) := dk_181 0 19 (dk_at dksX1_copy_2 6 rfl rfl)
theorem dX1_copy_57 : decode cX1_copy 57 = .ok (.aload_n 1, 1) := dk_43 (dk_at dksX1_copy_2 9 rfl rfl)
theorem dX1_copy_58 : decode cX1_copy 58 = .ok (.aload_n 0, 1) := dk_42 (dk_at dksX1_copy_2 10 rfl rfl)
theorem dX1_copy_59 : decode cX1_copy 59 = .ok (.getfield 22, 3) := dk_180 0 22 (dk_at dksX1_copy_2 11 rfl rfl)
theorem dX1_copy_62 : decode cX1_copy 62 = .ok (.invokestatic 77, 3) := dk_184 0 77 (dk_at dksX1_copy_2 14 rfl rfl)
theorem dX1_copy_65 : decode cX1_copy 65 = .ok (.putfield 22, 3) := dk_181 0 22 (dk_at dksX1_copy_2 17 rfl rfl)
theorem dX1_copy_68 : decode cX1_copy 68 = .ok (.aload_n 1, 1) := dk_43 (dk_at dksX1_copy_2 20 rfl rfl)
theorem dX1_copy_69 : decode cX1_copy 69 = .ok (.aload_n 0, 1) := dk_42 (dk_at dksX1_copy_2 21 rfl rfl)
theorem dX1_copy_70 : decode cX1_copy 70 = .ok (.getfield 36, 3) := dk_180 0 36 (dk_at dksX1_copy_3 0 rfl rfl)
theorem dX1_copy_73 : decode cX1_copy 73 = .ok (.invokevirtual 81, 3) := dk_182 0 81 (dk_at dksX1_copy_3 3 rfl rfl)
theorem dX1_copy_76 : decode cX1_copy 76 = .ok (.checkcast 82, 3) := dk_192 0 82 (dk_at dksX1_copy_3 6 rfl rfl)
theorem dX1_copy_79 : decode cX1_copy 79 = .ok (.putfield 36, 3) := dk_181 0 36 (dk_at dksX1_copy_3 9 rfl rfl)
theorem dX1_copy_82 : decode cX1_copy 82 = .ok (.iconst 0, 1) := dk_3 (dk_at dksX1_copy_3 12 rfl rfl)
theorem dX1_copy_83 : decode cX1_copy 83 = .ok (.istore_n 2, 1) := dk_61 (dk_at dksX1_copy_3 13 rfl rfl)
theorem dX1_copy_84 : decode cX1_copy 84 = .ok (.iload_n 2, 1) := dk_28 (dk_at dksX1_copy_3 14 rfl rfl)
theorem dX1_copy_85 : decode cX1_copy 85 = .ok (.iconst 3, 1) := dk_6 (dk_at dksX1_copy_3 15 rfl rfl)
theorem dX1_copy_86 : decode cX1_copy 86 = .ok (.if_icmp .ge 24, 3) := dk_162 0 24 (dk_at dksX1_copy_3 16 rfl rfl)
theorem dX1_copy_89 : decode cX1_copy 89 = .ok (.aload_n 1, 1) := dk_43 (dk_at dksX1_copy_3 19 rfl rfl)
theorem dX1_copy_90 : decode cX1_copy 90 = .ok (.getfield 36, 3) := dk_180 0 36 (dk_at dksX1_copy_3 20 rfl rfl)
theorem dX1_copy_93 : decode cX1_copy 93 = .ok (.iload_n 2, 1) := dk_28 (dk_at dksX1_copy_3 23 rfl rfl)
theorem dX1_copy_94 : decode cX1_copy 94 = .ok (.aload_n 0, 1) := dk_42 (dk_at dksX1_copy_4 0 rfl rfl)
theorem dX1_copy_95 : decode cX1_copy 95 = .ok (.getfield 36, 3) := dk_180 0 36 (dk_at dksX1_copy_4 1 rfl rfl)
theorem dX1_copy_98 : decode cX1_copy 98 = .ok (.iload_n 2, 1) := dk_28 (dk_at dksX1_copy_4 4 rfl rfl)
theorem dX1_copy_99 : decode cX1_copy 99 = .ok (.aaload, 1) := dk_50 (dk_at dksX1_copy_4 5 rfl rfl)
theorem dX1_copy_100 : decode cX1_copy 100 = .ok (.invokevirtual 83, 3) := dk_182 0 83 (dk_at dksX1_copy_4 6 rfl rfl)
theorem dX1_copy_103 : decode cX1_copy 103 = .ok (.aastore, 1) := dk_83 (dk_at dksX1_copy_4 9 rfl rfl)
theorem dX1_copy_104 : decode cX1_copy 104 = .ok (.iinc 2 1, 3) := dk_132 2 1 (dk_at dksX1_copy_4 10 rfl rfl)
theorem dX1_copy_107 : decode cX1_copy 107 = .ok (.goto (-23), 3) := dk_167 255 233 (dk_at dksX1_copy_4 13 rfl rfl)
theorem dX1_copy_110 : decode cX1_copy 110 = .ok (.aload_n 1, 1) := dk_43 (dk_at dksX1_copy_4 16 rfl rfl)
theorem dX1_copy_111 : decode cX1_copy 111 = .ok (.areturn, 1) := dk_176 (dk_at dksX1_copy_4 17 rfl rfl)
def dkwX1_again_1 : List UInt8 := [192, 0, 68, 83, 132, 2, 1, 167, 255, 235, 43, 176]
abbrev dktX1_again_1 : List UInt8 := dkwX1_again_1 ++ []
def dkwX1_again_0 : List UInt8 := [42, 182, 0, 63, 192, 0, 9, 76, 3, 61, 28, 43, 190, 162, 0, 21, 43, 28, 42, 28, 50, 182, 0, 67]
abbrev dktX1_again_0 : List UInt8 := dkwX1_again_0 ++ dktX1_again_1
theorem dksX1_again_0 : cX1_again.data.toList.drop 0 = dktX1_again_0 := by decide +kernel
theorem dksX1_again_1 : cX1_again.data.toList.drop 24 = dktX1_again_1 := dk_seg dksX1_again_0 24 rfl rfl
theorem dX1_again_0 : decode cX1_again 0 = .ok (.aload_n 0, 1) := dk_42 (dk_at dksX1_again_0 0 rfl rfl)
theorem dX1_again_1 : decode cX1_again 1 = .ok (.invokevirtual 63, 3) := dk_182 0 63 (dk_at dksX1_again_0 1 rfl rfl)
theorem dX1_again_4 : decode cX1_again 4 = .ok (.checkcast 9, 3) := dk_192 0 9 (dk_at dksX1_again_0 4 rfl rfl)
theorem dX1_again_7 : decode cX1_again 7 = .ok (.astore_n 1, 1) := dk_76 (dk_at dksX1_again_0 7 rfl rfl)
theorem dX1_again_8 : decode cX1_again 8 = .ok (.iconst 0, 1) := dk_3 (dk_at dksX1_again_0 8 rfl rfl)
theorem dX1_again_9 : decode cX1_again 9 = .ok (.istore_n 2, 1) := dk_61 (dk_at dksX1_again_0 9 rfl rfl)
theorem dX1_again_10 : decode cX1_again 10 = .ok (.iload_n 2, 1) := dk_28 (dk_at dksX1_again_0 10 rfl rfl)
theorem dX1_again_11 : decode cX1_again 11 = .ok (.aload_n 1, 1) := dk_43 (dk_at dksX1_again_0 11 rfl rfl)
theorem dX1_again_12 : decode cX1_again 12 = .ok (.arraylength, 1) := dk_190 (dk_at dksX1_again_0 12 rfl rfl)
theorem dX1_again_13 : decode cX1_again 13 = .ok (.if_icmp .ge 21, 3) := dk_162 0 21 (dk_at dksX1_again_0 13 rfl rfl)
theorem dX1_again_16 : decode cX1_again 16 = .ok (.aload_n 1, 1) := dk_43 (dk_at dksX1_again_0 16 rfl rfl)
theorem dX1_again_17 : decode cX1_again 17 = .ok (.iload_n 2, 1) := dk_28 (dk_at dksX1_again_0 17 rfl rfl)
theorem dX1_again_18 : decode cX1_again 18 = .ok (.aload_n 0, 1) := dk_42 (dk_at dksX1_again_0 18 rfl rfl)
theorem dX1_again_19 : decode cX1_again 19 = .ok (.iload_n 2, 1) := dk_28 (dk_at dksX1_again_0 19 rfl rfl)
theorem dX1_again_20 : decode cX1_again 20 = .ok (.aaload, 1) := dk_50 (dk_at dksX1_again_0 20 rfl rfl)
theorem dX1_again_21 : decode cX1_again 21 = .ok (.invokevirtual 67, 3) := dk_182 0 67 (dk_at dksX1_again_0 21 rfl rfl)
theorem dX1_again_24 : decode cX1_again 24 = .ok (.checkcast 68, 3) := dk_192 0 68 (dk_at dksX1_again_1 0 rfl rfl)
theorem dX1_again_27 : decode cX1_again 27 = .ok (.aastore, 1) := dk_83 (dk_at dksX1_again_1 3 rfl rfl)
theorem dX1_again_28 : decode cX1_again 28 = .ok (.iinc 2 1, 3) := dk_132 2 1 (dk_at dksX1_again_1 4 rfl rfl)
theorem dX1_again_31 : decode cX1_again 31 = .ok (.goto (-21), 3) := dk_167 255 235 (dk_at dksX1_again_1 7 rfl rfl)
theorem dX1_again_34 : decode cX1_again 34 = .ok (.aload_n 1, 1) := dk_43 (dk_at dksX1_again_1 10 rfl rfl)
theorem dX1_again_35 : decode cX1_again 35 = .ok (.areturn, 1) := dk_176 (dk_at dksX1_again_1 11 rfl rfl)
def dkwX1_isHouse_0 : List UInt8 := [27, 133, 9, 42, 180, 0, 74, 4, 100, 133, 184, 0, 87, 172]
abbrev dktX1_isHouse_0 : List UInt8 := dkwX1_isHouse_0 ++ []
theorem dksX1_isHouse_0 : cX1_isHouse.data.toList.drop 0 = dktX1_isHouse_0 := by decide +kernel
theorem dX1_isHouse_0 : decode cX1_isHouse 0 = .ok (.iload_n 1, 1) := dk_27 (dk_at dksX1_isHouse_0 0 rfl rfl)
theorem dX1_isHouse_1 : decode cX1_isHouse 1 = .ok (.i2l, 1) := dk_133 (dk_at dksX1_isHouse_0 1 rfl rfl)
theorem dX1_isHouse_2 : decode cX1_isHouse 2 = .ok (.lconst 0, 1) := dk_9 (dk_at dksX1_isHouse_0 2 rfl rfl)
theorem dX1_isHouse_3 : decode cX1_isHouse 3 = .ok (.aload_n 0, 1) := dk_42 (dk_at dksX1_isHouse_0 3 rfl rfl)
theorem dX1_isHouse_4 : decode cX1_isHouse 4 = .ok (.getfield 74, 3) := dk_180 0 74 (dk_at dksX1_isHouse_0 4 rfl rfl)
theorem dX1_isHouse_7 : decode cX1_isHouse 7 = .ok (.iconst 1, 1) := dk_4 (dk_at dksX1_isHouse_0 7 rfl rfl)
theorem dX1_isHouse_8 : decode cX1_isHouse 8 = .ok (.isub, 1) := dk_100 (dk_at dksX1_isHouse_0 8 rfl rfl)
theorem dX1_isHouse_9 : decode cX1_isHouse 9 = .ok (.i2l, 1) := dk_133 (dk_at dksX1_isHouse_0 9 rfl rfl)
theorem dX1_isHouse_10 : decode cX1_isHouse 10 = .ok (.invokestatic 87, 3) := dk_184 0 87 (dk_at dksX1_isHouse_0 10 rfl rfl)
theorem dX1_isHouse_13 : decode cX1_isHouse 13 = .ok (.ireturn, 1) := dk_172 (dk_at dksX1_isHouse_0 13 rfl rfl)
def dkwX1_isAsset_0 : List UInt8 := [27, 133, 9, 42, 180, 0, 70, 4, 100, 133, 184, 0, 87, 172]
abbrev dktX1_isAsset_0 : List UInt8 := dkwX1_isAsset_0 ++ []
theorem dksX1_isAsset_0 : cX1_isAsset.data.toList.drop 0 = dktX1_isAsset_0 := by decide +kernel
theorem dX1_isAsset_0 : decode cX1_isAsset 0 = .ok (.iload_n 1, 1) := dk_27 (dk_at dksX1_isAsset_0 0 rfl rfl)
theorem dX1_isAsset_1 : decode cX1_isAsset 1 = .ok (.i2l, 1) := dk_133 (dk_at dksX1_isAsset_0 1 rfl rfl)
theorem dX1_isAsset_2 : decode cX1_isAsset 2 = .ok (.lconst 0, 1) := dk_9 (dk_at dksX1_isAsset_0 2 rfl rfl)
theorem dX1_isAsset_3 : decode cX1_isAsset 3 = .ok (.aload_n 0, 1) := dk_42 (dk_at dksX1_isAsset_0 3 rfl rfl)
theorem dX1_isAsset_4 : decode cX1_isAsset 4 = .ok (.getfield 70, 3) := dk_180 0 70 (dk_at dksX1_isAsset_0 4 rfl rfl)
theorem dX1_isAsset_7 : decode cX1_isAsset 7 = .ok (.iconst 1, 1) := dk_4 (dk_at dksX1_isAsset_0 7 rfl rfl)
theorem dX1_isAsset_8 : decode cX1_isAsset 8 = .ok (.isub, 1) := dk_100 (dk_at dksX1_isAsset_0 8 rfl rfl)
theorem dX1_isAsset_9 : decode cX1_isAsset 9 = .ok (.i2l, 1) := dk_133 (dk_at dksX1_isAsset_0 9 rfl rfl)
theorem dX1_isAsset_10 : decode cX1_isAsset 10 = .ok (.invokestatic 87, 3) := dk_184 0 87 (dk_at dksX1_isAsset_0 10 rfl rfl)
theorem dX1_isAsset_13 : decode cX1_isAsset 13 = .ok (.ireturn, 1) := dk_172 (dk_at dksX1_isAsset_0 13 rfl rfl)
def dkwX1_merges_7 : List UInt8 := [180, 0, 22, 29, 50, 28, 46, 96, 184, 0, 109, 79, 132, 3, 1, 167, 255, 170, 42, 28, 182, 0, 248, 177]
abbrev dktX1_merges_7 : List UInt8 := dkwX1_merges_7 ++ []
def dkwX1_merges_6 : List UInt8 := [184, 0, 109, 79, 42, 180, 0, 22, 29, 50, 27, 17, 3, 231, 42, 180, 0, 22, 29, 50, 27, 46, 42]
abbrev dktX1_merges_6 : List UInt8 := dkwX1_merges_6 ++ dktX1_merges_7
def dkwX1_merges_5 : List UInt8 := [50, 29, 17, 3, 231, 42, 180, 0, 22, 27, 50, 29, 46, 42, 180, 0, 22, 28, 50, 29, 46, 96]
abbrev dktX1_merges_5 : List UInt8 := dkwX1_merges_5 ++ dktX1_merges_6
def dkwX1_merges_4 : List UInt8 := [180, 0, 74, 162, 0, 84, 29, 27, 159, 0, 73, 29, 28, 160, 0, 6, 167, 0, 65, 42, 180, 0, 22, 27]
abbrev dktX1_merges_4 : List UInt8 := dkwX1_merges_4 ++ dktX1_merges_5
def dkwX1_merges_3 : List UInt8 := [180, 0, 19, 28, 50, 29, 46, 96, 184, 0, 109, 79, 132, 3, 1, 167, 255, 215, 3, 62, 29, 42]
abbrev dktX1_merges_3 : List UInt8 := dkwX1_merges_3 ++ dktX1_merges_4
def dkwX1_merges_2 : List UInt8 := [180, 0, 70, 162, 0, 39, 42, 180, 0, 19, 27, 50, 29, 16, 60, 42, 180, 0, 19, 27, 50, 29, 46, 42]
abbrev dktX1_merges_2 : List UInt8 := dkwX1_merges_2 ++ dktX1_merges_3
def dkwX1_merges_1 : List UInt8 := [46, 42, 180, 0, 16, 28, 50, 29, 46, 96, 184, 0, 109, 79, 132, 3, 1, 167, 255, 217, 3, 62, 29, 42]
abbrev dktX1_merges_1 : List UInt8 := dkwX1_merges_1 ++ dktX1_merges_2
def dkwX1_merges_0 : List UInt8 := [3, 62, 29, 5, 163, 0, 40, 42, 180, 0, 16, 27, 50, 29, 17, 39, 15, 42, 180, 0, 16, 27, 50, 29]
abbrev dktX1_merges_0 : List UInt8 := dkwX1_merges_0 ++ dktX1_merges_1
theorem dksX1_merges_0 : cX1_merges.data.toList.drop 0 = dktX1_merges_0 := by decide +kernel
theorem dksX1_merges_1 : cX1_merges.data.toList.drop 24 = dktX1_merges_1 := dk_seg dksX1_merges_0 24 rfl rfl
theorem dksX1_merges_2 : cX1_merges.data.toList.drop 48 = dktX1_merges_2 := dk_seg dksX1_merges_1 24 rfl rfl
theorem dksX1_merges_3 : cX1_merges.data.toList.drop 72 = dktX1_merges_3 := dk_seg dksX1_merges_2 24 rfl rfl
theorem dksX1_merges_4 : cX1_merges.data.toList.drop 94 = dktX1_merges_4 := dk_seg dksX1_merges_3 22 rfl rfl
theorem dksX1_merges_5 : cX1_merges.data.toList.drop 118 = dktX1_merges_5 := dk_seg dksX1_merges_4 24 rfl rfl
theorem dksX1_merges_6 : cX1_merges.data.toList.drop 140 = dktX1_merges_6 := dk_seg dksX1_merges_5 22 rfl rfl
theorem dksX1_merges_7 : cX1_merges.data.toList.drop 163 = dktX1_merges_7 := dk_seg dksX1_merges_6 23 rfl rfl
theorem dX1_merges_0 : decode cX1_merges 0 = .ok (.iconst 0, 1) := dk_3 (dk_at dksX1_merges_0 0 rfl rfl)
theorem dX1_merges_1 : decode cX1_merges 1 = .ok (.istore_n 3, 1) := dk_62 (dk_at dksX1_merges_0 1 rfl rfl)
theorem dX1_merges_2 : decode cX1_merges 2 = .ok (.iload_n 3, 1) := dk_29 (dk_at dksX1_merges_0 2 rfl rfl)
theorem dX1_merges_3 : decode cX1_merges 3 = .ok (.iconst 2, 1) := dk_5 (dk_at dksX1_merges_0 3 rfl rfl)
theorem dX1_merges_4 : decode cX1_merges 4 = .ok (.if_icmp .gt 40, 3) := dk_163 0 40 (dk_at dksX1_merges_0 4 rfl rfl)
theorem dX1_merges_7 : decode cX1_merges 7 = .ok (.aload_n 0, 1) := dk_42 (dk_at dksX1_merges_0 7 rfl rfl)
theorem dX1_merges_8 : decode cX1_merges 8 = .ok (.getfield 16, 3) := dk_180 0 16 (dk_at dksX1_merges_0 8 rfl rfl)
theorem dX1_merges_11 : decode cX1_merges 11 = .ok (.iload_n 1, 1) := dk_27 (dk_at dksX1_merges_0 11 rfl rfl)
theorem dX1_merges_12 : decode cX1_merges 12 = .ok (.aaload, 1) := dk_50 (dk_at dksX1_merges_0 12 rfl rfl)
theorem dX1_merges_13 : decode cX1_merges 13 = .ok (.iload_n 3, 1) := dk_29 (dk_at dksX1_merges_0 13 rfl rfl)
theorem dX1_merges_14 : decode cX1_merges 14 = .ok (.sipush 9999, 3) := dk_17 39 15 (dk_at dksX1_merges_0 14 rfl rfl)
theorem dX1_merges_17 : decode cX1_merges 17 = .ok (.aload_n 0, 1) := dk_42 (dk_at dksX1_merges_0 17 rfl rfl)
theorem dX1_merges_18 : decode cX1_merges 18 = .ok (.getfield 16, 3) := dk_180 0 16 (dk_at dksX1_merges_0 18 rfl rfl)
theorem dX1_merges_21 : decode cX1_merges 21 = .ok (.iload_n 1, 1) := dk_27 (dk_at dksX1_merges_0 21 rfl rfl)
theorem dX1_merges_22 : decode cX1_merges 22 = .ok (.aaload, 1) := dk_50 (dk_at dksX1_merges_0 22 rfl rfl)
theorem dX1_merges_23 : decode cX1_merges 23 = .ok (.iload_n 3, 1) := dk_29 (dk_at dksX1_merges_0 23 rfl rfl)
theorem dX1_merges_24 : decode cX1_merges 24 = .ok (.iaload, 1) := dk_46 (dk_at dksX1_merges_1 0 rfl rfl)
theorem dX1_merges_25 : decode cX1_merges 25 = .ok (.aload_n 0, 1) := dk_42 (dk_at dksX1_merges_1 1 rfl rfl)
theorem dX1_merges_26 : decode cX1_merges 26 = .ok (.getfield 16, 3) := dk_180 0 16 (dk_at dksX1_merges_1 2 rfl rfl)
theorem dX1_merges_29 : decode cX1_merges 29 = .ok (.iload_n 2, 1) := dk_28 (dk_at dksX1_merges_1 5 rfl rfl)
theorem dX1_merges_30 : decode cX1_merges 30 = .ok (.aaload, 1) := dk_50 (dk_at dksX1_merges_1 6 rfl rfl)
theorem dX1_merges_31 : decode cX1_merges 31 = .ok (.iload_n 3, 1) := dk_29 (dk_at dksX1_merges_1 7 rfl rfl)
theorem dX1_merges_32 : decode cX1_merges 32 = .ok (.iaload, 1) := dk_46 (dk_at dksX1_merges_1 8 rfl rfl)
theorem dX1_merges_33 : decode cX1_merges 33 = .ok (.iadd, 1) := dk_96 (dk_at dksX1_merges_1 9 rfl rfl)
theorem dX1_merges_34 : decode cX1_merges 34 = .ok (.invokestatic 109, 3) := dk_184 0 109 (dk_at dksX1_merges_1 10 rfl rfl)
theorem dX1_merges_37 : decode cX1_merges 37 = .ok (.iastore, 1) := dk_79 (dk_at dksX1_merges_1 13 rfl rfl)
theorem dX1_merges_38 : decode cX1_merges 38 = .ok (.iinc 3 1, 3) := dk_132 3 1 (dk_at dksX1_merges_1 14 rfl rfl)
theorem dX1_merges_41 : decode cX1_merges 41 = .ok (.goto (-39), 3) := dk_167 255 217 (dk_at dksX1_merges_1 17 rfl rfl)
theorem dX1_merges_44 : decode cX1_merges 44 = .ok (.iconst 0, 1) := dk_3 (dk_at dksX1_merges_1 20 rfl rfl)
theorem dX1_merges_45 : decode cX1_merges 45 = .ok (.istore_n 3, 1) := dk_62 (dk_at dksX1_merges_1 21 rfl rfl)
theorem dX1_merges_46 : decode cX1_merges 46 = .ok (.iload_n 3, 1) := dk_29 (dk_at dksX1_merges_1 22 rfl rfl)
theorem dX1_merges_47 : decode cX1_merges 47 = .ok (.aload_n 0, 1) := dk_42 (dk_at dksX1_merges_1 23 rfl rfl)
theorem dX1_merges_48 : decode cX1_merges 48 = .ok (.getfield 70, 3) := dk_180 0 70 (dk_at dksX1_merges_2 0 rfl rfl)
theorem dX1_merges_51 : decode cX1_merges 51 = .ok (.if_icmp .ge 39, 3) := dk_162 0 39 (dk_at dksX1_merges_2 3 rfl rfl)
theorem dX1_merges_54 : decode cX1_merges 54 = .ok (.aload_n 0, 1) := dk_42 (dk_at dksX1_merges_2 6 rfl rfl)
theorem dX1_merges_55 : decode cX1_merges 55 = .ok (.getfield 19, 3) := dk_180 0 19 (dk_at dksX1_merges_2 7 rfl rfl)
theorem dX1_merges_58 : decode cX1_merges 58 = .ok (.iload_n 1, 1) := dk_27 (dk_at dksX1_merges_2 10 rfl rfl)
theorem dX1_merges_59 : decode cX1_merges 59 = .ok (.aaload, 1) := dk_50 (dk_at dksX1_merges_2 11 rfl rfl)
theorem dX1_merges_60 : decode cX1_merges 60 = .ok (.iload_n 3, 1) := dk_29 (dk_at dksX1_merges_2 12 rfl rfl)
theorem dX1_merges_61 : decode cX1_merges 61 = .ok (.bipush 60, 2) := dk_16 60 (dk_at dksX1_merges_2 13 rfl rfl)
theorem dX1_merges_63 : decode cX1_merges 63 = .ok (.aload_n 0, 1) := dk_42 (dk_at dksX1_merges_2 15 rfl rfl)
theorem dX1_merges_64 : decode cX1_merges 64 = .ok (.getfield 19, 3) := dk_180 0 19 (dk_at dksX1_merges_2 16 rfl rfl)
theorem dX1_merges_67 : decode cX1_merges 67 = .ok (.iload_n 1, 1) := dk_27 (dk_at dksX1_merges_2 19 rfl rfl)
theorem dX1_merges_68 : decode cX1_merges 68 = .ok (.aaload, 1) := dk_50 (dk_at dksX1_merges_2 20 rfl rfl)
theorem dX1_merges_69 : decode cX1_merges 69 = .ok (.iload_n 3, 1) := dk_29 (dk_at dksX1_merges_2 21 rfl rfl)
theorem dX1_merges_70 : decode cX1_merges 70 = .ok (.iaload, 1) := dk_46 (dk_at dksX1_merges_2 22 rfl rfl)
theorem dX1_merges_71 : decode cX1_merges 71 = .ok (.aload_n 0, 1) := dk_42 (dk_at dksX1_merges_2 23 rfl rfl)
theorem dX1_merges_72 : decode cX1_merges 72 = .ok (.getfield 19, 3) := dk_180 0 19 (dk_at dksX1_merges_3 0 rfl rfl)
theorem dX1_merges_75 : decode cX1_merges 75 = .ok (.iload_n 2, 1) := dk_28 (dk_at dksX1_merges_3 3 rfl rfl)
theorem dX1_merges_76 : decode cX1_merges 76 = .ok (.aaload, 1) := dk_50 (dk_at dksX1_merges_3 4 rfl rfl)
theorem dX1_merges_77 : decode cX1_merges 77 = .ok (.iload_n 3, 1) := dk_29 (dk_at dksX1_merges_3 5 rfl rfl)
theorem dX1_merges_78 : decode cX1_merges 78 = .ok (.iaload, 1) := dk_46 (dk_at dksX1_merges_3 6 rfl rfl)
theorem dX1_merges_79 : decode cX1_merges 79 = .ok (.iadd, 1) := dk_96 (dk_at dksX1_merges_3 7 rfl rfl)
theorem dX1_merges_80 : decode cX1_merges 80 = .ok (.invokestatic 109, 3) := dk_184 0 109 (dk_at dksX1_merges_3 8 rfl rfl)
theorem dX1_merges_83 : decode cX1_merges 83 = .ok (.iastore, 1) := dk_79 (dk_at dksX1_merges_3 11 rfl rfl)
theorem dX1_merges_84 : decode cX1_merges 84 = .ok (.iinc 3 1, 3) := dk_132 3 1 (dk_at dksX1_merges_3 12 rfl rfl)
theorem dX1_merges_87 : decode cX1_merges 87 = .ok (.goto (-41), 3) := dk_167 255 215 (dk_at dksX1_merges_3 15 rfl rfl)
theorem dX1_merges_90 : decode cX1_merges 90 = .ok (.iconst 0, 1) := dk_3 (dk_at dksX1_merges_3 18 rfl rfl)
theorem dX1_merges_91 : decode cX1_merges 91 = .ok (.istore_n 3, 1) := dk_62 (dk_at dksX1_merges_3 19 rfl rfl)
theorem dX1_merges_92 : decode cX1_merges 92 = .ok (.iload_n 3, 1) := dk_29 (dk_at dksX1_merges_3 20 rfl rfl)
theorem dX1_merges_93 : decode cX1_merges 93 = .ok (.aload_n 0, 1) := dk_42 (dk_at dksX1_merges_3 21 rfl rfl)
theorem dX1_merges_94 : decode cX1_merges 94 = .ok (.getfield 74, 3) := dk_180 0 74 (dk_at dksX1_merges_4 0 rfl rfl)
theorem dX1_merges_97 : decode cX1_merges 97 = .ok (.if_icmp .ge 84, 3) := dk_162 0 84 (dk_at dksX1_merges_4 3 rfl rfl)
theorem dX1_merges_100 : decode cX1_merges 100 = .ok (.iload_n 3, 1) := dk_29 (dk_at dksX1_merges_4 6 rfl rfl)
theorem dX1_merges_101 : decode cX1_merges 101 = .ok (.iload_n 1, 1) := dk_27 (dk_at dksX1_merges_4 7 rfl rfl)
theorem dX1_merges_102 : decode cX1_merges 102 = .ok (.if_icmp .eq 73, 3) := dk_159 0 73 (dk_at dksX1_merges_4 8 rfl rfl)
theorem dX1_merges_105 : decode cX1_merges 105 = .ok (.iload_n 3, 1) := dk_29 (dk_at dksX1_merges_4 11 rfl rfl)
theorem dX1_merges_106 : decode cX1_merges 106 = .ok (.iload_n 2, 1) := dk_28 (dk_at dksX1_merges_4 12 rfl rfl)
theorem dX1_merges_107 : decode cX1_merges 107 = .ok (.if_icmp .ne 6, 3) := dk_160 0 6 (dk_at dksX1_merges_4 13 rfl rfl)
theorem dX1_merges_110 : decode cX1_merges 110 = .ok (.goto 65, 3) := dk_167 0 65 (dk_at dksX1_merges_4 16 rfl rfl)
theorem dX1_merges_113 : decode cX1_merges 113 = .ok (.aload_n 0, 1) := dk_42 (dk_at dksX1_merges_4 19 rfl rfl)
theorem dX1_merges_114 : decode cX1_merges 114 = .ok (.getfield 22, 3) := dk_180 0 22 (dk_at dksX1_merges_4 20 rfl rfl)
theorem dX1_merges_117 : decode cX1_merges 117 = .ok (.iload_n 1, 1) := dk_27 (dk_at dksX1_merges_4 23 rfl rfl)
theorem dX1_merges_118 : decode cX1_merges 118 = .ok (.aaload, 1) := dk_50 (dk_at dksX1_merges_5 0 rfl rfl)
theorem dX1_merges_119 : decode cX1_merges 119 = .ok (.iload_n 3, 1) := dk_29 (dk_at dksX1_merges_5 1 rfl rfl)
theorem dX1_merges_120 : decode cX1_merges 120 = .ok (.sipush 999, 3) := dk_17 3 231 (dk_at dksX1_merges_5 2 rfl rfl)
theorem dX1_merges_123 : decode cX1_merges 123 = .ok (.aload_n 0, 1) := dk_42 (dk_at dksX1_merges_5 5 rfl rfl)
theorem dX1_merges_124 : decode cX1_merges 124 = .ok (.getfield 22, 3) := dk_180 0 22 (dk_at dksX1_merges_5 6 rfl rfl)
theorem dX1_merges_127 : decode cX1_merges 127 = .ok (.iload_n 1, 1) := dk_27 (dk_at dksX1_merges_5 9 rfl rfl)
theorem dX1_merges_128 : decode cX1_merges 128 = .ok (.aaload, 1) := dk_50 (dk_at dksX1_merges_5 10 rfl rfl)
theorem dX1_merges_129 : decode cX1_merges 129 = .ok (.iload_n 3, 1) := dk_29 (dk_at dksX1_merges_5 11 rfl rfl)
theorem dX1_merges_130 : decode cX1_merges 130 = .ok (.iaload, 1) := dk_46 (dk_at dksX1_merges_5 12 rfl rfl)
theorem dX1_merges_131 : decode cX1_merges 131 = .ok (.aload_n 0, 1) := dk_42 (dk_at dksX1_merges_5 13 rfl rfl)
theorem dX1_merges_132 : decode cX1_merges 132 = .ok (.getfield 22, 3) := dk_180 0 22 (dk_at dksX1_merges_5 14 rfl rfl)
theorem dX1_merges_135 : decode cX1_merges 135 = .ok (.iload_n 2, 1) := dk_28 (dk_at dksX1_merges_5 17 rfl rfl)
theorem dX1_merges_136 : decode cX1_merges 136 = .ok (.aaload, 1) := dk_50 (dk_at dksX1_merges_5 18 rfl rfl)
theorem dX1_merges_137 : decode cX1_merges 137 = .ok (.iload_n 3, 1) := dk_29 (dk_at dksX1_merges_5 19 rfl rfl)
theorem dX1_merges_138 : decode cX1_merges 138 = .ok (.iaload, 1) := dk_46 (dk_at dksX1_merges_5 20 rfl rfl)
theorem dX1_merges_139 : decode cX1_merges 139 = .ok (.iadd, 1) := dk_96 (dk_at dksX1_merges_5 21 rfl rfl)
theorem dX1_merges_140 : decode cX1_merges 140 = .ok (.invokestatic 109, 3) := dk_184 0 109 (dk_at dksX1_merges_6 0 rfl rfl)
theorem dX1_merges_143 : decode cX1_merges 143 = .ok (.iastore, 1) := dk_79 (dk_at dksX1_merges_6 3 rfl rfl)
theorem dX1_merges_144 : decode cX1_merges 144 = .ok (.aload_n 0, 1) := dk_42 (dk_at dksX1_merges_6 4 rfl rfl)
theorem dX1_merges_145 : decode cX1_merges 145 = .ok (.getfield 22, 3) := dk_180 0 22 (dk_at dksX1_merges_6 5 rfl rfl)
theorem dX1_merges_148 : decode cX1_merges 148 = .ok (.iload_n 3, 1) := dk_29 (dk_at dksX1_merges_6 8 rfl rfl)
theorem dX1_merges_149 : decode cX1_merges 149 = .ok (.aaload, 1) := dk_50 (dk_at dksX1_merges_6 9 rfl rfl)
theorem dX1_merges_150 : decode cX1_merges 150 = .ok (.iload_n 1, 1) := dk_27 (dk_at dksX1_merges_6 10 rfl rfl)
theorem dX1_merges_151 : decode cX1_merges 151 = .ok (.sipush 999, 3) := dk_17 3 231 (dk_at dksX1_merges_6 11 rfl rfl)
theorem dX1_merges_154 : decode cX1_merges 154 = .ok (.aload_n 0, 1) := dk_42 (dk_at dksX1_merges_6 14 rfl rfl)
theorem dX1_merges_155 : decode cX1_merges 155 = .ok (.getfield 22, 3) := dk_180 0 22 (dk_at dksX1_merges_6 15 rfl rfl)
theorem dX1_merges_158 : decode cX1_merges 158 = .ok (.iload_n 3, 1) := dk_29 (dk_at dksX1_merges_6 18 rfl rfl)
theorem dX1_merges_159 : decode cX1_merges 159 = .ok (.aaload, 1) := dk_50 (dk_at dksX1_merges_6 19 rfl rfl)
theorem dX1_merges_160 : decode cX1_merges 160 = .ok (.iload_n 1, 1) := dk_27 (dk_at dksX1_merges_6 20 rfl rfl)
theorem dX1_merges_161 : decode cX1_merges 161 = .ok (.iaload, 1) := dk_46 (dk_at dksX1_merges_6 21 rfl rfl)
theorem dX1_merges_162 : decode cX1_merges 162 = .ok (.aload_n 0, 1) := dk_42 (dk_at dksX1_merges_6 22 rfl rfl)
theorem dX1_merges_163 : decode cX1_merges 163 = .ok (.getfield 22, 3) := dk_180 0 22 (dk_at dksX1_merges_7 0 rfl rfl)
theorem dX1_merges_166 : decode cX1_merges 166 = .ok (.iload_n 3, 1) := dk_29 (dk_at dksX1_merges_7 3 rfl rfl)
theorem dX1_merges_167 : decode cX1_merges 167 = .ok (.aaload, 1) := dk_50 (dk_at dksX1_merges_7 4 rfl rfl)
theorem dX1_merges_168 : decode cX1_merges 168 = .ok (.iload_n 2, 1) := dk_28 (dk_at dksX1_merges_7 5 rfl rfl)
theorem dX1_merges_169 : decode cX1_merges 169 = .ok (.iaload, 1) := dk_46 (dk_at dksX1_merges_7 6 rfl rfl)
theorem dX1_merges_170 : decode cX1_merges 170 = .ok (.iadd, 1) := dk_96 (dk_at dksX1_merges_7 7 rfl rfl)
theorem dX1_merges_171 : decode cX1_merges 171 = .ok (.invokestatic 109, 3) := dk_184 0 109 (dk_at dksX1_merges_7 8 rfl rfl)
theorem dX1_merges_174 : decode cX1_merges 174 = .ok (.iastore, 1) := dk_79 (dk_at dksX1_merges_7 11 rfl rfl)
theorem dX1_merges_175 : decode cX1_merges 175 = .ok (.iinc 3 1, 3) := dk_132 3 1 (dk_at dksX1_merges_7 12 rfl rfl)
theorem dX1_merges_178 : decode cX1_merges 178 = .ok (.goto (-86), 3) := dk_167 255 170 (dk_at dksX1_merges_7 15 rfl rfl)
theorem dX1_merges_181 : decode cX1_merges 181 = .ok (.aload_n 0, 1) := dk_42 (dk_at dksX1_merges_7 18 rfl rfl)
theorem dX1_merges_182 : decode cX1_merges 182 = .ok (.iload_n 2, 1) := dk_28 (dk_at dksX1_merges_7 19 rfl rfl)
theorem dX1_merges_183 : decode cX1_merges 183 = .ok (.invokevirtual 248, 3) := dk_182 0 248 (dk_at dksX1_merges_7 20 rfl rfl)
theorem dX1_merges_186 : decode cX1_merges 186 = .ok (.return_, 1) := dk_177 (dk_at dksX1_merges_7 23 rfl rfl)
def dkwX1_leaves_7 : List UInt8 := [177]
abbrev dktX1_leaves_7 : List UInt8 := dkwX1_leaves_7 ++ []
def dkwX1_leaves_6 : List UInt8 := [180, 0, 19, 42, 180, 0, 74, 7, 188, 10, 83, 42, 180, 0, 22, 42, 180, 0, 74, 16, 6, 188, 10, 83]
abbrev dktX1_leaves_6 : List UInt8 := dkwX1_leaves_6 ++ dktX1_leaves_7
def dkwX1_leaves_5 : List UInt8 := [89, 180, 0, 74, 4, 100, 181, 0, 74, 42, 180, 0, 16, 42, 180, 0, 74, 8, 188, 10, 83, 42]
abbrev dktX1_leaves_5 : List UInt8 := dkwX1_leaves_5 ++ dktX1_leaves_6
def dkwX1_leaves_4 : List UInt8 := [96, 50, 83, 42, 180, 0, 22, 28, 42, 180, 0, 22, 28, 4, 96, 50, 83, 132, 2, 1, 167, 255, 201, 42]
abbrev dktX1_leaves_4 : List UInt8 := dkwX1_leaves_4 ++ dktX1_leaves_5
def dkwX1_leaves_3 : List UInt8 := [180, 0, 16, 28, 42, 180, 0, 16, 28, 4, 96, 50, 83, 42, 180, 0, 19, 28, 42, 180, 0, 19, 28, 4]
abbrev dktX1_leaves_3 : List UInt8 := dkwX1_leaves_3 ++ dktX1_leaves_4
def dkwX1_leaves_2 : List UInt8 := [28, 50, 8, 3, 79, 132, 2, 1, 167, 255, 202, 27, 61, 28, 4, 96, 42, 180, 0, 74, 162, 0, 51, 42]
abbrev dktX1_leaves_2 : List UInt8 := dkwX1_leaves_2 ++ dktX1_leaves_3
def dkwX1_leaves_1 : List UInt8 := [28, 50, 29, 42, 180, 0, 22, 28, 50, 29, 4, 96, 46, 79, 132, 3, 1, 167, 255, 227, 42, 180, 0, 22]
abbrev dktX1_leaves_1 : List UInt8 := dkwX1_leaves_1 ++ dktX1_leaves_2
def dkwX1_leaves_0 : List UInt8 := [3, 61, 28, 42, 180, 0, 74, 162, 0, 52, 27, 62, 29, 4, 96, 16, 6, 162, 0, 27, 42, 180, 0, 22]
abbrev dktX1_leaves_0 : List UInt8 := dkwX1_leaves_0 ++ dktX1_leaves_1
theorem dksX1_leaves_0 : cX1_leaves.data.toList.drop 0 = dktX1_leaves_0 := by decide +kernel
theorem dksX1_leaves_1 : cX1_leaves.data.toList.drop 24 = dktX1_leaves_1 := dk_seg dksX1_leaves_0 24 rfl rfl
theorem dksX1_leaves_2 : cX1_leaves.data.toList.drop 48 = dktX1_leaves_2 := dk_seg dksX1_leaves_1 24 rfl rfl
theorem dksX1_leaves_3 : cX1_leaves.data.toList.drop 72 = dktX1_leaves_3 := dk_seg dksX1_leaves_2 24 rfl rfl
theorem dksX1_leaves_4 : cX1_leaves.data.toList.drop 96 = dktX1_leaves_4 := dk_seg dksX1_leaves_3 24 rfl rfl
theorem dksX1_leaves_5 : cX1_leaves.data.toList.drop 120 = dktX1_leaves_5 := dk_seg dksX1_leaves_4 24 rfl rfl
theorem dksX1_leaves_6 : cX1_leaves.data.toList.drop 142 = dktX1_leaves_6 := dk_seg dksX1_leaves_5 22 rfl rfl
theorem dksX1_leaves_7 : cX1_leaves.data.toList.drop 166 = dktX1_leaves_7 := dk_seg dksX1_leaves_6 24 rfl rfl
theorem dX1_leaves_0 : decode cX1_leaves 0 = .ok (.iconst 0, 1) := dk_3 (dk_at dksX1_leaves_0 0 rfl rfl)
theorem dX1_leaves_1 : decode cX1_leaves 1 = .ok (.istore_n 2, 1) := dk_61 (dk_at dksX1_leaves_0 1 rfl rfl)
theorem dX1_leaves_2 : decode cX1_leaves 2 = .ok (.iload_n 2, 1) := dk_28 (dk_at dksX1_leaves_0 2 rfl rfl)
theorem dX1_leaves_3 : decode cX1_leaves 3 = .ok (.aload_n 0, 1) := dk_42 (dk_at dksX1_leaves_0 3 rfl rfl)
theorem dX1_leaves_4 : decode cX1_leaves 4 = .ok (.getfield 74, 3) := dk_180 0 74 (dk_at dksX1_leaves_0 4 rfl rfl)
theorem dX1_leaves_7 : decode cX1_leaves 7 = .ok (.if_icmp .ge 52, 3) := dk_162 0 52 (dk_at dksX1_leaves_0 7 rfl rfl)
theorem dX1_leaves_10 : decode cX1_leaves 10 = .ok (.iload_n 1, 1) := dk_27 (dk_at dksX1_leaves_0 10 rfl rfl)
theorem dX1_leaves_11 : decode cX1_leaves 11 = .ok (.istore_n 3, 1) := dk_62 (dk_at dksX1_leaves_0 11 rfl rfl)
theorem dX1_leaves_12 : decode cX1_leaves 12 = .ok (.iload_n 3, 1) := dk_29 (dk_at dksX1_leaves_0 12 rfl rfl)
theorem dX1_leaves_13 : decode cX1_leaves 13 = .ok (.iconst 1, 1) := dk_4 (dk_at dksX1_leaves_0 13 rfl rfl)
theorem dX1_leaves_14 : decode cX1_leaves 14 = .ok (.iadd, 1) := dk_96 (dk_at dksX1_leaves_0 14 rfl rfl)
theorem dX1_leaves_15 : decode cX1_leaves 15 = .ok (.bipush 6, 2) := dk_16 6 (dk_at dksX1_leaves_0 15 rfl rfl)
theorem dX1_leaves_17 : decode cX1_leaves 17 = .ok (.if_icmp .ge 27, 3) := dk_162 0 27 (dk_at dksX1_leaves_0 17 rfl rfl)
theorem dX1_leaves_20 : decode cX1_leaves 20 = .ok (.aload_n 0, 1) := dk_42 (dk_at dksX1_leaves_0 20 rfl rfl)
theorem dX1_leaves_21 : decode cX1_leaves 21 = .ok (.getfield 22, 3) := dk_180 0 22 (dk_at dksX1_leaves_0 21 rfl rfl)
theorem dX1_leaves_24 : decode cX1_leaves 24 = .ok (.iload_n 2, 1) := dk_28 (dk_at dksX1_leaves_1 0 rfl rfl)
theorem dX1_leaves_25 : decode cX1_leaves 25 = .ok (.aaload, 1) := dk_50 (dk_at dksX1_leaves_1 1 rfl rfl)
theorem dX1_leaves_26 : decode cX1_leaves 26 = .ok (.iload_n 3, 1) := dk_29 (dk_at dksX1_leaves_1 2 rfl rfl)
theorem dX1_leaves_27 : decode cX1_leaves 27 = .ok (.aload_n 0, 1) := dk_42 (dk_at dksX1_leaves_1 3 rfl rfl)
theorem dX1_leaves_28 : decode cX1_leaves 28 = .ok (.getfield 22, 3) := dk_180 0 22 (dk_at dksX1_leaves_1 4 rfl rfl)
theorem dX1_leaves_31 : decode cX1_leaves 31 = .ok (.iload_n 2, 1) := dk_28 (dk_at dksX1_leaves_1 7 rfl rfl)
theorem dX1_leaves_32 : decode cX1_leaves 32 = .ok (.aaload, 1) := dk_50 (dk_at dksX1_leaves_1 8 rfl rfl)
theorem dX1_leaves_33 : decode cX1_leaves 33 = .ok (.iload_n 3, 1) := dk_29 (dk_at dksX1_leaves_1 9 rfl rfl)
theorem dX1_leaves_34 : decode cX1_leaves 34 = .ok (.iconst 1, 1) := dk_4 (dk_at dksX1_leaves_1 10 rfl rfl)
theorem dX1_leaves_35 : decode cX1_leaves 35 = .ok (.iadd, 1) := dk_96 (dk_at dksX1_leaves_1 11 rfl rfl)
theorem dX1_leaves_36 : decode cX1_leaves 36 = .ok (.iaload, 1) := dk_46 (dk_at dksX1_leaves_1 12 rfl rfl)
theorem dX1_leaves_37 : decode cX1_leaves 37 = .ok (.iastore, 1) := dk_79 (dk_at dksX1_leaves_1 13 rfl rfl)
theorem dX1_leaves_38 : decode cX1_leaves 38 = .ok (.iinc 3 1, 3) := dk_132 3 1 (dk_at dksX1_leaves_1 14 rfl rfl)
theorem dX1_leaves_41 : decode cX1_leaves 41 = .ok (.goto (-29), 3) := dk_167 255 227 (dk_at dksX1_leaves_1 17 rfl rfl)
theorem dX1_leaves_44 : decode cX1_leaves 44 = .ok (.aload_n 0, 1) := dk_42 (dk_at dksX1_leaves_1 20 rfl rfl)
theorem dX1_leaves_45 : decode cX1_leaves 45 = .ok (.getfield 22, 3) := dk_180 0 22 (dk_at dksX1_leaves_1 21 rfl rfl)
theorem dX1_leaves_48 : decode cX1_leaves 48 = .ok (.iload_n 2, 1) := dk_28 (dk_at dksX1_leaves_2 0 rfl rfl)
theorem dX1_leaves_49 : decode cX1_leaves 49 = .ok (.aaload, 1) := dk_50 (dk_at dksX1_leaves_2 1 rfl rfl)
theorem dX1_leaves_50 : decode cX1_leaves 50 = .ok (.iconst 5, 1) := dk_8 (dk_at dksX1_leaves_2 2 rfl rfl)
theorem dX1_leaves_51 : decode cX1_leaves 51 = .ok (.iconst 0, 1) := dk_3 (dk_at dksX1_leaves_2 3 rfl rfl)
theorem dX1_leaves_52 : decode cX1_leaves 52 = .ok (.iastore, 1) := dk_79 (dk_at dksX1_leaves_2 4 rfl rfl)
theorem dX1_leaves_53 : decode cX1_leaves 53 = .ok (.iinc 2 1, 3) := dk_132 2 1 (dk_at dksX1_leaves_2 5 rfl rfl)
theorem dX1_leaves_56 : decode cX1_leaves 56 = .ok (.goto (-54), 3) := dk_167 255 202 (dk_at dksX1_leaves_2 8 rfl rfl)
theorem dX1_leaves_59 : decode cX1_leaves 59 = .ok (.iload_n 1, 1) := dk_27 (dk_at dksX1_leaves_2 11 rfl rfl)
theorem dX1_leaves_60 : decode cX1_leaves 60 = .ok (.istore_n 2, 1) := dk_61 (dk_at dksX1_leaves_2 12 rfl rfl)
theorem dX1_leaves_61 : decode cX1_leaves 61 = .ok (.iload_n 2, 1) := dk_28 (dk_at dksX1_leaves_2 13 rfl rfl)
theorem dX1_leaves_62 : decode cX1_leaves 62 = .ok (.iconst 1, 1) := dk_4 (dk_at dksX1_leaves_2 14 rfl rfl)
theorem dX1_leaves_63 : decode cX1_leaves 63 = .ok (.iadd, 1) := dk_96 (dk_at dksX1_leaves_2 15 rfl rfl)
theorem dX1_leaves_64 : decode cX1_leaves 64 = .ok (.aload_n 0, 1) := dk_42 (dk_at dksX1_leaves_2 16 rfl rfl)
theorem dX1_leaves_65 : decode cX1_leaves 65 = .ok (.getfield 74, 3) := dk_180 0 74 (dk_at dksX1_leaves_2 17 rfl rfl)
theorem dX1_leaves_68 : decode cX1_leaves 68 = .ok (.if_icmp .ge 51, 3) := dk_162 0 51 (dk_at dksX1_leaves_2 20 rfl rfl)
theorem dX1_leaves_71 : decode cX1_leaves 71 = .ok (.aload_n 0, 1) := dk_42 (dk_at dksX1_leaves_2 23 rfl rfl)
theorem dX1_leaves_72 : decode cX1_leaves 72 = .ok (.getfield 16, 3) := dk_180 0 16 (dk_at dksX1_leaves_3 0 rfl rfl)
theorem dX1_leaves_75 : decode cX1_leaves 75 = .ok (.iload_n 2, 1) := dk_28 (dk_at dksX1_leaves_3 3 rfl rfl)
theorem dX1_leaves_76 : decode cX1_leaves 76 = .ok (.aload_n 0, 1) := dk_42 (dk_at dksX1_leaves_3 4 rfl rfl)
theorem dX1_leaves_77 : decode cX1_leaves 77 = .ok (.getfield 16, 3) := dk_180 0 16 (dk_at dksX1_leaves_3 5 rfl rfl)
theorem dX1_leaves_80 : decode cX1_leaves 80 = .ok (.iload_n 2, 1) := dk_28 (dk_at dksX1_leaves_3 8 rfl rfl)
theorem dX1_leaves_81 : decode cX1_leaves 81 = .ok (.iconst 1, 1) := dk_4 (dk_at dksX1_leaves_3 9 rfl rfl)
theorem dX1_leaves_82 : decode cX1_leaves 82 = .ok (.iadd, 1) := dk_96 (dk_at dksX1_leaves_3 10 rfl rfl)
theorem dX1_leaves_83 : decode cX1_leaves 83 = .ok (.aaload, 1) := dk_50 (dk_at dksX1_leaves_3 11 rfl rfl)
theorem dX1_leaves_84 : decode cX1_leaves 84 = .ok (.aastore, 1) := dk_83 (dk_at dksX1_leaves_3 12 rfl rfl)
theorem dX1_leaves_85 : decode cX1_leaves 85 = .ok (.aload_n 0, 1) := dk_42 (dk_at dksX1_leaves_3 13 rfl rfl)
theorem dX1_leaves_86 : decode cX1_leaves 86 = .ok (.getfield 19, 3) := dk_180 0 19 (dk_at dksX1_leaves_3 14 rfl rfl)
theorem dX1_leaves_89 : decode cX1_leaves 89 = .ok (.iload_n 2, 1) := dk_28 (dk_at dksX1_leaves_3 17 rfl rfl)
theorem dX1_leaves_90 : decode cX1_leaves 90 = .ok (.aload_n 0, 1) := dk_42 (dk_at dksX1_leaves_3 18 rfl rfl)
theorem dX1_leaves_91 : decode cX1_leaves 91 = .ok (.getfield 19, 3) := dk_180 0 19 (dk_at dksX1_leaves_3 19 rfl rfl)
theorem dX1_leaves_94 : decode cX1_leaves 94 = .ok (.iload_n 2, 1) := dk_28 (dk_at dksX1_leaves_3 22 rfl rfl)
theorem dX1_leaves_95 : decode cX1_leaves 95 = .ok (.iconst 1, 1) := dk_4 (dk_at dksX1_leaves_3 23 rfl rfl)
theorem dX1_leaves_96 : decode cX1_leaves 96 = .ok (.iadd, 1) := dk_96 (dk_at dksX1_leaves_4 0 rfl rfl)
theorem dX1_leaves_97 : decode cX1_leaves 97 = .ok (.aaload, 1) := dk_50 (dk_at dksX1_leaves_4 1 rfl rfl)
theorem dX1_leaves_98 : decode cX1_leaves 98 = .ok (.aastore, 1) := dk_83 (dk_at dksX1_leaves_4 2 rfl rfl)
theorem dX1_leaves_99 : decode cX1_leaves 99 = .ok (.aload_n 0, 1) := dk_42 (dk_at dksX1_leaves_4 3 rfl rfl)
theorem dX1_leaves_100 : decode cX1_leaves 100 = .ok (.getfield 22, 3) := dk_180 0 22 (dk_at dksX1_leaves_4 4 rfl rfl)
theorem dX1_leaves_103 : decode cX1_leaves 103 = .ok (.iload_n 2, 1) := dk_28 (dk_at dksX1_leaves_4 7 rfl rfl)
theorem dX1_leaves_104 : decode cX1_leaves 104 = .ok (.aload_n 0, 1) := dk_42 (dk_at dksX1_leaves_4 8 rfl rfl)
theorem dX1_leaves_105 : decode cX1_leaves 105 = .ok (.getfield 22, 3) := dk_180 0 22 (dk_at dksX1_leaves_4 9 rfl rfl)
theorem dX1_leaves_108 : decode cX1_leaves 108 = .ok (.iload_n 2, 1) := dk_28 (dk_at dksX1_leaves_4 12 rfl rfl)
theorem dX1_leaves_109 : decode cX1_leaves 109 = .ok (.iconst 1, 1) := dk_4 (dk_at dksX1_leaves_4 13 rfl rfl)
theorem dX1_leaves_110 : decode cX1_leaves 110 = .ok (.iadd, 1) := dk_96 (dk_at dksX1_leaves_4 14 rfl rfl)
theorem dX1_leaves_111 : decode cX1_leaves 111 = .ok (.aaload, 1) := dk_50 (dk_at dksX1_leaves_4 15 rfl rfl)
theorem dX1_leaves_112 : decode cX1_leaves 112 = .ok (.aastore, 1) := dk_83 (dk_at dksX1_leaves_4 16 rfl rfl)
theorem dX1_leaves_113 : decode cX1_leaves 113 = .ok (.iinc 2 1, 3) := dk_132 2 1 (dk_at dksX1_leaves_4 17 rfl rfl)
theorem dX1_leaves_116 : decode cX1_leaves 116 = .ok (.goto (-55), 3) := dk_167 255 201 (dk_at dksX1_leaves_4 20 rfl rfl)
theorem dX1_leaves_119 : decode cX1_leaves 119 = .ok (.aload_n 0, 1) := dk_42 (dk_at dksX1_leaves_4 23 rfl rfl)
theorem dX1_leaves_120 : decode cX1_leaves 120 = .ok (.dup, 1) := dk_89 (dk_at dksX1_leaves_5 0 rfl rfl)
theorem dX1_leaves_121 : decode cX1_leaves 121 = .ok (.getfield 74, 3) := dk_180 0 74 (dk_at dksX1_leaves_5 1 rfl rfl)
theorem dX1_leaves_124 : decode cX1_leaves 124 = .ok (.iconst 1, 1) := dk_4 (dk_at dksX1_leaves_5 4 rfl rfl)
theorem dX1_leaves_125 : decode cX1_leaves 125 = .ok (.isub, 1) := dk_100 (dk_at dksX1_leaves_5 5 rfl rfl)
theorem dX1_leaves_126 : decode cX1_leaves 126 = .ok (.putfield 74, 3) := dk_181 0 74 (dk_at dksX1_leaves_5 6 rfl rfl)
theorem dX1_leaves_129 : decode cX1_leaves 129 = .ok (.aload_n 0, 1) := dk_42 (dk_at dksX1_leaves_5 9 rfl rfl)
theorem dX1_leaves_130 : decode cX1_leaves 130 = .ok (.getfield 16, 3) := dk_180 0 16 (dk_at dksX1_leaves_5 10 rfl rfl)
theorem dX1_leaves_133 : decode cX1_leaves 133 = .ok (.aload_n 0, 1) := dk_42 (dk_at dksX1_leaves_5 13 rfl rfl)
theorem dX1_leaves_134 : decode cX1_leaves 134 = .ok (.getfield 74, 3) := dk_180 0 74 (dk_at dksX1_leaves_5 14 rfl rfl)
theorem dX1_leaves_137 : decode cX1_leaves 137 = .ok (.iconst 5, 1) := dk_8 (dk_at dksX1_leaves_5 17 rfl rfl)
theorem dX1_leaves_138 : decode cX1_leaves 138 = .ok (.newarray .int, 2) := dk_188_10 (dk_at dksX1_leaves_5 18 rfl rfl)
theorem dX1_leaves_140 : decode cX1_leaves 140 = .ok (.aastore, 1) := dk_83 (dk_at dksX1_leaves_5 20 rfl rfl)
theorem dX1_leaves_141 : decode cX1_leaves 141 = .ok (.aload_n 0, 1) := dk_42 (dk_at dksX1_leaves_5 21 rfl rfl)
theorem dX1_leaves_142 : decode cX1_leaves 142 = .ok (.getfield 19, 3) := dk_180 0 19 (dk_at dksX1_leaves_6 0 rfl rfl)
theorem dX1_leaves_145 : decode cX1_leaves 145 = .ok (.aload_n 0, 1) := dk_42 (dk_at dksX1_leaves_6 3 rfl rfl)
theorem dX1_leaves_146 : decode cX1_leaves 146 = .ok (.getfield 74, 3) := dk_180 0 74 (dk_at dksX1_leaves_6 4 rfl rfl)
theorem dX1_leaves_149 : decode cX1_leaves 149 = .ok (.iconst 4, 1) := dk_7 (dk_at dksX1_leaves_6 7 rfl rfl)
theorem dX1_leaves_150 : decode cX1_leaves 150 = .ok (.newarray .int, 2) := dk_188_10 (dk_at dksX1_leaves_6 8 rfl rfl)
theorem dX1_leaves_152 : decode cX1_leaves 152 = .ok (.aastore, 1) := dk_83 (dk_at dksX1_leaves_6 10 rfl rfl)
theorem dX1_leaves_153 : decode cX1_leaves 153 = .ok (.aload_n 0, 1) := dk_42 (dk_at dksX1_leaves_6 11 rfl rfl)
theorem dX1_leaves_154 : decode cX1_leaves 154 = .ok (.getfield 22, 3) := dk_180 0 22 (dk_at dksX1_leaves_6 12 rfl rfl)
theorem dX1_leaves_157 : decode cX1_leaves 157 = .ok (.aload_n 0, 1) := dk_42 (dk_at dksX1_leaves_6 15 rfl rfl)
theorem dX1_leaves_158 : decode cX1_leaves 158 = .ok (.getfield 74, 3) := dk_180 0 74 (dk_at dksX1_leaves_6 16 rfl rfl)
theorem dX1_leaves_161 : decode cX1_leaves 161 = .ok (.bipush 6, 2) := dk_16 6 (dk_at dksX1_leaves_6 19 rfl rfl)
theorem dX1_leaves_163 : decode cX1_leaves 163 = .ok (.newarray .int, 2) := dk_188_10 (dk_at dksX1_leaves_6 21 rfl rfl)
theorem dX1_leaves_165 : decode cX1_leaves 165 = .ok (.aastore, 1) := dk_83 (dk_at dksX1_leaves_6 23 rfl rfl)
theorem dX1_leaves_166 : decode cX1_leaves 166 = .ok (.return_, 1) := dk_177 (dk_at dksX1_leaves_7 0 rfl rfl)
def dkwX1_least_0 : List UInt8 := [42, 42, 182, 0, 187, 18, 190, 182, 0, 191, 176]
abbrev dktX1_least_0 : List UInt8 := dkwX1_least_0 ++ []
theorem dksX1_least_0 : cX1_least.data.toList.drop 0 = dktX1_least_0 := by decide +kernel
theorem dX1_least_0 : decode cX1_least 0 = .ok (.aload_n 0, 1) := dk_42 (dk_at dksX1_least_0 0 rfl rfl)
theorem dX1_least_1 : decode cX1_least 1 = .ok (.aload_n 0, 1) := dk_42 (dk_at dksX1_least_0 1 rfl rfl)
theorem dX1_least_2 : decode cX1_least 2 = .ok (.invokevirtual 187, 3) := dk_182 0 187 (dk_at dksX1_least_0 2 rfl rfl)
theorem dX1_least_5 : decode cX1_least 5 = .ok (.ldc 190, 2) := dk_18 190 (dk_at dksX1_least_0 5 rfl rfl)
theorem dX1_least_7 : decode cX1_least 7 = .ok (.invokevirtual 191, 3) := dk_182 0 191 (dk_at dksX1_least_0 7 rfl rfl)
theorem dX1_least_10 : decode cX1_least 10 = .ok (.areturn, 1) := dk_176 (dk_at dksX1_least_0 10 rfl rfl)
def dkwX1_calm_0 : List UInt8 := [187, 0, 50, 89, 183, 0, 52, 76, 43, 42, 180, 0, 118, 181, 0, 121, 43, 176]
abbrev dktX1_calm_0 : List UInt8 := dkwX1_calm_0 ++ []
theorem dksX1_calm_0 : cX1_calm.data.toList.drop 0 = dktX1_calm_0 := by decide +kernel
theorem dX1_calm_0 : decode cX1_calm 0 = .ok (.new 50, 3) := dk_187 0 50 (dk_at dksX1_calm_0 0 rfl rfl)
theorem dX1_calm_3 : decode cX1_calm 3 = .ok (.dup, 1) := dk_89 (dk_at dksX1_calm_0 3 rfl rfl)
theorem dX1_calm_4 : decode cX1_calm 4 = .ok (.invokespecial 52, 3) := dk_183 0 52 (dk_at dksX1_calm_0 4 rfl rfl)
theorem dX1_calm_7 : decode cX1_calm 7 = .ok (.astore_n 1, 1) := dk_76 (dk_at dksX1_calm_0 7 rfl rfl)
theorem dX1_calm_8 : decode cX1_calm 8 = .ok (.aload_n 1, 1) := dk_43 (dk_at dksX1_calm_0 8 rfl rfl)
theorem dX1_calm_9 : decode cX1_calm 9 = .ok (.aload_n 0, 1) := dk_42 (dk_at dksX1_calm_0 9 rfl rfl)
theorem dX1_calm_10 : decode cX1_calm 10 = .ok (.getfield 118, 3) := dk_180 0 118 (dk_at dksX1_calm_0 10 rfl rfl)
theorem dX1_calm_13 : decode cX1_calm 13 = .ok (.putfield 121, 3) := dk_181 0 121 (dk_at dksX1_calm_0 13 rfl rfl)
theorem dX1_calm_16 : decode cX1_calm 16 = .ok (.aload_n 1, 1) := dk_43 (dk_at dksX1_calm_0 16 rfl rfl)
theorem dX1_calm_17 : decode cX1_calm 17 = .ok (.areturn, 1) := dk_176 (dk_at dksX1_calm_0 17 rfl rfl)
def dkwX1_walk_3 : List UInt8 := [167, 255, 209, 45, 182, 0, 184, 176]
abbrev dktX1_walk_3 : List UInt8 := dkwX1_walk_3 ++ []
def dkwX1_walk_2 : List UInt8 := [167, 0, 26, 45, 58, 5, 25, 4, 78, 25, 5, 58, 4, 42, 89, 180, 0, 173, 4, 96, 181, 0, 173]
abbrev dktX1_walk_2 : List UInt8 := dkwX1_walk_2 ++ dktX1_walk_3
def dkwX1_walk_1 : List UInt8 := [180, 0, 173, 28, 162, 0, 45, 42, 45, 25, 4, 182, 0, 176, 25, 4, 45, 182, 0, 180, 153, 0, 6]
abbrev dktX1_walk_1 : List UInt8 := dkwX1_walk_1 ++ dktX1_walk_2
def dkwX1_walk_0 : List UInt8 := [42, 180, 0, 53, 78, 42, 180, 0, 57, 58, 4, 45, 43, 182, 0, 170, 42, 3, 181, 0, 173, 42]
abbrev dktX1_walk_0 : List UInt8 := dkwX1_walk_0 ++ dktX1_walk_1
theorem dksX1_walk_0 : cX1_walk.data.toList.drop 0 = dktX1_walk_0 := by decide +kernel
theorem dksX1_walk_1 : cX1_walk.data.toList.drop 22 = dktX1_walk_1 := dk_seg dksX1_walk_0 22 rfl rfl
theorem dksX1_walk_2 : cX1_walk.data.toList.drop 45 = dktX1_walk_2 := dk_seg dksX1_walk_1 23 rfl rfl
theorem dksX1_walk_3 : cX1_walk.data.toList.drop 68 = dktX1_walk_3 := dk_seg dksX1_walk_2 23 rfl rfl
theorem dX1_walk_0 : decode cX1_walk 0 = .ok (.aload_n 0, 1) := dk_42 (dk_at dksX1_walk_0 0 rfl rfl)
theorem dX1_walk_1 : decode cX1_walk 1 = .ok (.getfield 53, 3) := dk_180 0 53 (dk_at dksX1_walk_0 1 rfl rfl)
theorem dX1_walk_4 : decode cX1_walk 4 = .ok (.astore_n 3, 1) := dk_78 (dk_at dksX1_walk_0 4 rfl rfl)
theorem dX1_walk_5 : decode cX1_walk 5 = .ok (.aload_n 0, 1) := dk_42 (dk_at dksX1_walk_0 5 rfl rfl)
theorem dX1_walk_6 : decode cX1_walk 6 = .ok (.getfield 57, 3) := dk_180 0 57 (dk_at dksX1_walk_0 6 rfl rfl)
theorem dX1_walk_9 : decode cX1_walk 9 = .ok (.astore 4, 2) := dk_58 4 (dk_at dksX1_walk_0 9 rfl rfl)
theorem dX1_walk_11 : decode cX1_walk 11 = .ok (.aload_n 3, 1) := dk_45 (dk_at dksX1_walk_0 11 rfl rfl)
theorem dX1_walk_12 : decode cX1_walk 12 = .ok (.aload_n 1, 1) := dk_43 (dk_at dksX1_walk_0 12 rfl rfl)
theorem dX1_walk_13 : decode cX1_walk 13 = .ok (.invokevirtual 170, 3) := dk_182 0 170 (dk_at dksX1_walk_0 13 rfl rfl)
theorem dX1_walk_16 : decode cX1_walk 16 = .ok (.aload_n 0, 1) := dk_42 (dk_at dksX1_walk_0 16 rfl rfl)
theorem dX1_walk_17 : decode cX1_walk 17 = .ok (.iconst 0, 1) := dk_3 (dk_at dksX1_walk_0 17 rfl rfl)
theorem dX1_walk_18 : decode cX1_walk 18 = .ok (.putfield 173, 3) := dk_181 0 173 (dk_at dksX1_walk_0 18 rfl rfl)
theorem dX1_walk_21 : decode cX1_walk 21 = .ok (.aload_n 0, 1) := dk_42 (dk_at dksX1_walk_0 21 rfl rfl)
theorem dX1_walk_22 : decode cX1_walk 22 = .ok (.getfield 173, 3) := dk_180 0 173 (dk_at dksX1_walk_1 0 rfl rfl)
theorem dX1_walk_25 : decode cX1_walk 25 = .ok (.iload_n 2, 1) := dk_28 (dk_at dksX1_walk_1 3 rfl rfl)
theorem dX1_walk_26 : decode cX1_walk 26 = .ok (.if_icmp .ge 45, 3) := dk_162 0 45 (dk_at dksX1_walk_1 4 rfl rfl)
theorem dX1_walk_29 : decode cX1_walk 29 = .ok (.aload_n 0, 1) := dk_42 (dk_at dksX1_walk_1 7 rfl rfl)
theorem dX1_walk_30 : decode cX1_walk 30 = .ok (.aload_n 3, 1) := dk_45 (dk_at dksX1_walk_1 8 rfl rfl)
theorem dX1_walk_31 : decode cX1_walk 31 = .ok (.aload 4, 2) := dk_25 4 (dk_at dksX1_walk_1 9 rfl rfl)
theorem dX1_walk_33 : decode cX1_walk 33 = .ok (.invokevirtual 176, 3) := dk_182 0 176 (dk_at dksX1_walk_1 11 rfl rfl)
theorem dX1_walk_36 : decode cX1_walk 36 = .ok (.aload 4, 2) := dk_25 4 (dk_at dksX1_walk_1 14 rfl rfl)
theorem dX1_walk_38 : decode cX1_walk 38 = .ok (.aload_n 3, 1) := dk_45 (dk_at dksX1_walk_1 16 rfl rfl)
theorem dX1_walk_39 : decode cX1_walk 39 = .ok (.invokevirtual 180, 3) := dk_182 0 180 (dk_at dksX1_walk_1 17 rfl rfl)
theorem dX1_walk_42 : decode cX1_walk 42 = .ok (.ifCond .eq 6, 3) := dk_153 0 6 (dk_at dksX1_walk_1 20 rfl rfl)
theorem dX1_walk_45 : decode cX1_walk 45 = .ok (.goto 26, 3) := dk_167 0 26 (dk_at dksX1_walk_2 0 rfl rfl)
theorem dX1_walk_48 : decode cX1_walk 48 = .ok (.aload_n 3, 1) := dk_45 (dk_at dksX1_walk_2 3 rfl rfl)
theorem dX1_walk_49 : decode cX1_walk 49 = .ok (.astore 5, 2) := dk_58 5 (dk_at dksX1_walk_2 4 rfl rfl)
theorem dX1_walk_51 : decode cX1_walk 51 = .ok (.aload 4, 2) := dk_25 4 (dk_at dksX1_walk_2 6 rfl rfl)
theorem dX1_walk_53 : decode cX1_walk 53 = .ok (.astore_n 3, 1) := dk_78 (dk_at dksX1_walk_2 8 rfl rfl)
theorem dX1_walk_54 : decode cX1_walk 54 = .ok (.aload 5, 2) := dk_25 5 (dk_at dksX1_walk_2 9 rfl rfl)
theorem dX1_walk_56 : decode cX1_walk 56 = .ok (.astore 4, 2) := dk_58 4 (dk_at dksX1_walk_2 11 rfl rfl)
theorem dX1_walk_58 : decode cX1_walk 58 = .ok (.aload_n 0, 1) := dk_42 (dk_at dksX1_walk_2 13 rfl rfl)
theorem dX1_walk_59 : decode cX1_walk 59 = .ok (.dup, 1) := dk_89 (dk_at dksX1_walk_2 14 rfl rfl)
theorem dX1_walk_60 : decode cX1_walk 60 = .ok (.getfield 173, 3) := dk_180 0 173 (dk_at dksX1_walk_2 15 rfl rfl)
theorem dX1_walk_63 : decode cX1_walk 63 = .ok (.iconst 1, 1) := dk_4 (dk_at dksX1_walk_2 18 rfl rfl)
theorem dX1_walk_64 : decode cX1_walk 64 = .ok (.iadd, 1) := dk_96 (dk_at dksX1_walk_2 19 rfl rfl)
theorem dX1_walk_65 : decode cX1_walk 65 = .ok (.putfield 173, 3) := dk_181 0 173 (dk_at dksX1_walk_2 20 rfl rfl)
theorem dX1_walk_68 : decode cX1_walk 68 = .ok (.goto (-47), 3) := dk_167 255 209 (dk_at dksX1_walk_3 0 rfl rfl)
theorem dX1_walk_71 : decode cX1_walk 71 = .ok (.aload_n 3, 1) := dk_45 (dk_at dksX1_walk_3 3 rfl rfl)
theorem dX1_walk_72 : decode cX1_walk 72 = .ok (.invokevirtual 184, 3) := dk_182 0 184 (dk_at dksX1_walk_3 4 rfl rfl)
theorem dX1_walk_75 : decode cX1_walk 75 = .ok (.areturn, 1) := dk_176 (dk_at dksX1_walk_3 7 rfl rfl)
def dkwX1_next_4 : List UInt8 := [44, 180, 0, 124, 29, 46, 42, 29, 182, 0, 127, 184, 0, 109, 79, 132, 3, 1, 167, 255, 225, 177]
abbrev dktX1_next_4 : List UInt8 := dkwX1_next_4 ++ []
def dkwX1_next_3 : List UInt8 := [182, 0, 160, 132, 3, 1, 167, 255, 201, 3, 62, 29, 42, 180, 0, 70, 162, 0, 29, 44, 180, 0, 124, 29]
abbrev dktX1_next_3 : List UInt8 := dkwX1_next_3 ++ dktX1_next_4
def dkwX1_next_2 : List UInt8 := [89, 180, 0, 121, 4, 29, 120, 128, 181, 0, 121, 42, 29, 42, 29, 21, 4, 182, 0, 155, 44, 180, 0, 124]
abbrev dktX1_next_2 : List UInt8 := dkwX1_next_2 ++ dktX1_next_3
def dkwX1_next_1 : List UInt8 := [42, 180, 0, 74, 162, 0, 53, 42, 29, 43, 180, 0, 121, 182, 0, 147, 54, 4, 21, 4, 156, 0, 15, 44]
abbrev dktX1_next_1 : List UInt8 := dkwX1_next_1 ++ dktX1_next_2
def dkwX1_next_0 : List UInt8 := [44, 180, 0, 124, 3, 184, 0, 164, 44, 42, 180, 0, 118, 181, 0, 121, 42, 43, 182, 0, 143, 3, 62, 29]
abbrev dktX1_next_0 : List UInt8 := dkwX1_next_0 ++ dktX1_next_1
theorem dksX1_next_0 : cX1_next.data.toList.drop 0 = dktX1_next_0 := by decide +kernel
theorem dksX1_next_1 : cX1_next.data.toList.drop 24 = dktX1_next_1 := dk_seg dksX1_next_0 24 rfl rfl
theorem dksX1_next_2 : cX1_next.data.toList.drop 48 = dktX1_next_2 := dk_seg dksX1_next_1 24 rfl rfl
theorem dksX1_next_3 : cX1_next.data.toList.drop 72 = dktX1_next_3 := dk_seg dksX1_next_2 24 rfl rfl
theorem dksX1_next_4 : cX1_next.data.toList.drop 96 = dktX1_next_4 := dk_seg dksX1_next_3 24 rfl rfl
theorem dX1_next_0 : decode cX1_next 0 = .ok (.aload_n 2, 1) := dk_44 (dk_at dksX1_next_0 0 rfl rfl)
theorem dX1_next_1 : decode cX1_next 1 = .ok (.getfield 124, 3) := dk_180 0 124 (dk_at dksX1_next_0 1 rfl rfl)
theorem dX1_next_4 : decode cX1_next 4 = .ok (.iconst 0, 1) := dk_3 (dk_at dksX1_next_0 4 rfl rfl)
theorem dX1_next_5 : decode cX1_next 5 = .ok (.invokestatic 164, 3) := dk_184 0 164 (dk_at dksX1_next_0 5 rfl rfl)
theorem dX1_next_8 : decode cX1_next 8 = .ok (.aload_n 2, 1) := dk_44 (dk_at dksX1_next_0 8 rfl rfl)
theorem dX1_next_9 : decode cX1_next 9 = .ok (.aload_n 0, 1) := dk_42 (dk_at dksX1_next_0 9 rfl rfl)
theorem dX1_next_10 : decode cX1_next 10 = .ok (.getfield 118, 3) := dk_180 0 118 (dk_at dksX1_next_0 10 rfl rfl)
theorem dX1_next_13 : decode cX1_next 13 = .ok (.putfield 121, 3) := dk_181 0 121 (dk_at dksX1_next_0 13 rfl rfl)
theorem dX1_next_16 : decode cX1_next 16 = .ok (.aload_n 0, 1) := dk_42 (dk_at dksX1_next_0 16 rfl rfl)
theorem dX1_next_17 : decode cX1_next 17 = .ok (.aload_n 1, 1) := dk_43 (dk_at dksX1_next_0 17 rfl rfl)
theorem dX1_next_18 : decode cX1_next 18 = .ok (.invokevirtual 143, 3) := dk_182 0 143 (dk_at dksX1_next_0 18 rfl rfl)
theorem dX1_next_21 : decode cX1_next 21 = .ok (.iconst 0, 1) := dk_3 (dk_at dksX1_next_0 21 rfl rfl)
theorem dX1_next_22 : decode cX1_next 22 = .ok (.istore_n 3, 1) := dk_62 (dk_at dksX1_next_0 22 rfl rfl)
theorem dX1_next_23 : decode cX1_next 23 = .ok (.iload_n 3, 1) := dk_29 (dk_at dksX1_next_0 23 rfl rfl)
theorem dX1_next_24 : decode cX1_next 24 = .ok (.aload_n 0, 1) := dk_42 (dk_at dksX1_next_1 0 rfl rfl)
theorem dX1_next_25 : decode cX1_next 25 = .ok (.getfield 74, 3) := dk_180 0 74 (dk_at dksX1_next_1 1 rfl rfl)
theorem dX1_next_28 : decode cX1_next 28 = .ok (.if_icmp .ge 53, 3) := dk_162 0 53 (dk_at dksX1_next_1 4 rfl rfl)
theorem dX1_next_31 : decode cX1_next 31 = .ok (.aload_n 0, 1) := dk_42 (dk_at dksX1_next_1 7 rfl rfl)
theorem dX1_next_32 : decode cX1_next 32 = .ok (.iload_n 3, 1) := dk_29 (dk_at dksX1_next_1 8 rfl rfl)
theorem dX1_next_33 : decode cX1_next 33 = .ok (.aload_n 1, 1) := dk_43 (dk_at dksX1_next_1 9 rfl rfl)
theorem dX1_next_34 : decode cX1_next 34 = .ok (.getfield 121, 3) := dk_180 0 121 (dk_at dksX1_next_1 10 rfl rfl)
theorem dX1_next_37 : decode cX1_next 37 = .ok (.invokevirtual 147, 3) := dk_182 0 147 (dk_at dksX1_next_1 13 rfl rfl)
theorem dX1_next_40 : decode cX1_next 40 = .ok (.istore 4, 2) := dk_54 4 (dk_at dksX1_next_1 16 rfl rfl)
theorem dX1_next_42 : decode cX1_next 42 = .ok (.iload 4, 2) := dk_21 4 (dk_at dksX1_next_1 18 rfl rfl)
theorem dX1_next_44 : decode cX1_next 44 = .ok (.ifCond .ge 15, 3) := dk_156 0 15 (dk_at dksX1_next_1 20 rfl rfl)
theorem dX1_next_47 : decode cX1_next 47 = .ok (.aload_n 2, 1) := dk_44 (dk_at dksX1_next_1 23 rfl rfl)
theorem dX1_next_48 : decode cX1_next 48 = .ok (.dup, 1) := dk_89 (dk_at dksX1_next_2 0 rfl rfl)
theorem dX1_next_49 : decode cX1_next 49 = .ok (.getfield 121, 3) := dk_180 0 121 (dk_at dksX1_next_2 1 rfl rfl)
theorem dX1_next_52 : decode cX1_next 52 = .ok (.iconst 1, 1) := dk_4 (dk_at dksX1_next_2 4 rfl rfl)
theorem dX1_next_53 : decode cX1_next 53 = .ok (.iload_n 3, 1) := dk_29 (dk_at dksX1_next_2 5 rfl rfl)
theorem dX1_next_54 : decode cX1_next 54 = .ok (.ishl, 1) := dk_120 (dk_at dksX1_next_2 6 rfl rfl)
theorem dX1_next_55 : decode cX1_next 55 = .ok (.ior, 1) := dk_128 (dk_at dksX1_next_2 7 rfl rfl)
theorem dX1_next_56 : decode cX1_next 56 = .ok (.putfield 121, 3) := dk_181 0 121 (dk_at dksX1_next_2 8 rfl rfl)
theorem dX1_next_59 : decode cX1_next 59 = .ok (.aload_n 0, 1) := dk_42 (dk_at dksX1_next_2 11 rfl rfl)
theorem dX1_next_60 : decode cX1_next 60 = .ok (.iload_n 3, 1) := dk_29 (dk_at dksX1_next_2 12 rfl rfl)
theorem dX1_next_61 : decode cX1_next 61 = .ok (.aload_n 0, 1) := dk_42 (dk_at dksX1_next_2 13 rfl rfl)
theorem dX1_next_62 : decode cX1_next 62 = .ok (.iload_n 3, 1) := dk_29 (dk_at dksX1_next_2 14 rfl rfl)
theorem dX1_next_63 : decode cX1_next 63 = .ok (.iload 4, 2) := dk_21 4 (dk_at dksX1_next_2 15 rfl rfl)
theorem dX1_next_65 : decode cX1_next 65 = .ok (.invokevirtual 155, 3) := dk_182 0 155 (dk_at dksX1_next_2 17 rfl rfl)
theorem dX1_next_68 : decode cX1_next 68 = .ok (.aload_n 2, 1) := dk_44 (dk_at dksX1_next_2 20 rfl rfl)
theorem dX1_next_69 : decode cX1_next 69 = .ok (.getfield 124, 3) := dk_180 0 124 (dk_at dksX1_next_2 21 rfl rfl)
theorem dX1_next_72 : decode cX1_next 72 = .ok (.invokevirtual 160, 3) := dk_182 0 160 (dk_at dksX1_next_3 0 rfl rfl)
theorem dX1_next_75 : decode cX1_next 75 = .ok (.iinc 3 1, 3) := dk_132 3 1 (dk_at dksX1_next_3 3 rfl rfl)
theorem dX1_next_78 : decode cX1_next 78 = .ok (.goto (-55), 3) := dk_167 255 201 (dk_at dksX1_next_3 6 rfl rfl)
theorem dX1_next_81 : decode cX1_next 81 = .ok (.iconst 0, 1) := dk_3 (dk_at dksX1_next_3 9 rfl rfl)
theorem dX1_next_82 : decode cX1_next 82 = .ok (.istore_n 3, 1) := dk_62 (dk_at dksX1_next_3 10 rfl rfl)
theorem dX1_next_83 : decode cX1_next 83 = .ok (.iload_n 3, 1) := dk_29 (dk_at dksX1_next_3 11 rfl rfl)
theorem dX1_next_84 : decode cX1_next 84 = .ok (.aload_n 0, 1) := dk_42 (dk_at dksX1_next_3 12 rfl rfl)
theorem dX1_next_85 : decode cX1_next 85 = .ok (.getfield 70, 3) := dk_180 0 70 (dk_at dksX1_next_3 13 rfl rfl)
theorem dX1_next_88 : decode cX1_next 88 = .ok (.if_icmp .ge 29, 3) := dk_162 0 29 (dk_at dksX1_next_3 16 rfl rfl)
theorem dX1_next_91 : decode cX1_next 91 = .ok (.aload_n 2, 1) := dk_44 (dk_at dksX1_next_3 19 rfl rfl)
theorem dX1_next_92 : decode cX1_next 92 = .ok (.getfield 124, 3) := dk_180 0 124 (dk_at dksX1_next_3 20 rfl rfl)
theorem dX1_next_95 : decode cX1_next 95 = .ok (.iload_n 3, 1) := dk_29 (dk_at dksX1_next_3 23 rfl rfl)
theorem dX1_next_96 : decode cX1_next 96 = .ok (.aload_n 2, 1) := dk_44 (dk_at dksX1_next_4 0 rfl rfl)
theorem dX1_next_97 : decode cX1_next 97 = .ok (.getfield 124, 3) := dk_180 0 124 (dk_at dksX1_next_4 1 rfl rfl)
theorem dX1_next_100 : decode cX1_next 100 = .ok (.iload_n 3, 1) := dk_29 (dk_at dksX1_next_4 4 rfl rfl)
theorem dX1_next_101 : decode cX1_next 101 = .ok (.iaload, 1) := dk_46 (dk_at dksX1_next_4 5 rfl rfl)
theorem dX1_next_102 : decode cX1_next 102 = .ok (.aload_n 0, 1) := dk_42 (dk_at dksX1_next_4 6 rfl rfl)
theorem dX1_next_103 : decode cX1_next 103 = .ok (.iload_n 3, 1) := dk_29 (dk_at dksX1_next_4 7 rfl rfl)
theorem dX1_next_104 : decode cX1_next 104 = .ok (.invokevirtual 127, 3) := dk_182 0 127 (dk_at dksX1_next_4 8 rfl rfl)
theorem dX1_next_107 : decode cX1_next 107 = .ok (.invokestatic 109, 3) := dk_184 0 109 (dk_at dksX1_next_4 11 rfl rfl)
theorem dX1_next_110 : decode cX1_next 110 = .ok (.iastore, 1) := dk_79 (dk_at dksX1_next_4 14 rfl rfl)
theorem dX1_next_111 : decode cX1_next 111 = .ok (.iinc 3 1, 3) := dk_132 3 1 (dk_at dksX1_next_4 15 rfl rfl)
theorem dX1_next_114 : decode cX1_next 114 = .ok (.goto (-31), 3) := dk_167 255 225 (dk_at dksX1_next_4 18 rfl rfl)
theorem dX1_next_117 : decode cX1_next 117 = .ok (.return_, 1) := dk_177 (dk_at dksX1_next_4 21 rfl rfl)
def dkwX1_prices_1 : List UInt8 := [132, 2, 1, 167, 255, 233, 177]
abbrev dktX1_prices_1 : List UInt8 := dkwX1_prices_1 ++ []
def dkwX1_prices_0 : List UInt8 := [3, 61, 28, 42, 180, 0, 70, 162, 0, 21, 42, 180, 0, 60, 28, 42, 43, 28, 182, 0, 135, 79]
abbrev dktX1_prices_0 : List UInt8 := dkwX1_prices_0 ++ dktX1_prices_1
theorem dksX1_prices_0 : cX1_prices.data.toList.drop 0 = dktX1_prices_0 := by decide +kernel
theorem dksX1_prices_1 : cX1_prices.data.toList.drop 22 = dktX1_prices_1 := dk_seg dksX1_prices_0 22 rfl rfl
theorem dX1_prices_0 : decode cX1_prices 0 = .ok (.iconst 0, 1) := dk_3 (dk_at dksX1_prices_0 0 rfl rfl)
theorem dX1_prices_1 : decode cX1_prices 1 = .ok (.istore_n 2, 1) := dk_61 (dk_at dksX1_prices_0 1 rfl rfl)
theorem dX1_prices_2 : decode cX1_prices 2 = .ok (.iload_n 2, 1) := dk_28 (dk_at dksX1_prices_0 2 rfl rfl)
theorem dX1_prices_3 : decode cX1_prices 3 = .ok (.aload_n 0, 1) := dk_42 (dk_at dksX1_prices_0 3 rfl rfl)
theorem dX1_prices_4 : decode cX1_prices 4 = .ok (.getfield 70, 3) := dk_180 0 70 (dk_at dksX1_prices_0 4 rfl rfl)
theorem dX1_prices_7 : decode cX1_prices 7 = .ok (.if_icmp .ge 21, 3) := dk_162 0 21 (dk_at dksX1_prices_0 7 rfl rfl)
theorem dX1_prices_10 : decode cX1_prices 10 = .ok (.aload_n 0, 1) := dk_42 (dk_at dksX1_prices_0 10 rfl rfl)
theorem dX1_prices_11 : decode cX1_prices 11 = .ok (.getfield 60, 3) := dk_180 0 60 (dk_at dksX1_prices_0 11 rfl rfl)
theorem dX1_prices_14 : decode cX1_prices 14 = .ok (.iload_n 2, 1) := dk_28 (dk_at dksX1_prices_0 14 rfl rfl)
theorem dX1_prices_15 : decode cX1_prices 15 = .ok (.aload_n 0, 1) := dk_42 (dk_at dksX1_prices_0 15 rfl rfl)
theorem dX1_prices_16 : decode cX1_prices 16 = .ok (.aload_n 1, 1) := dk_43 (dk_at dksX1_prices_0 16 rfl rfl)
theorem dX1_prices_17 : decode cX1_prices 17 = .ok (.iload_n 2, 1) := dk_28 (dk_at dksX1_prices_0 17 rfl rfl)
theorem dX1_prices_18 : decode cX1_prices 18 = .ok (.invokevirtual 135, 3) := dk_182 0 135 (dk_at dksX1_prices_0 18 rfl rfl)
theorem dX1_prices_21 : decode cX1_prices 21 = .ok (.iastore, 1) := dk_79 (dk_at dksX1_prices_0 21 rfl rfl)
theorem dX1_prices_22 : decode cX1_prices 22 = .ok (.iinc 2 1, 3) := dk_132 2 1 (dk_at dksX1_prices_1 0 rfl rfl)
theorem dX1_prices_25 : decode cX1_prices 25 = .ok (.goto (-23), 3) := dk_167 255 233 (dk_at dksX1_prices_1 3 rfl rfl)
theorem dX1_prices_28 : decode cX1_prices 28 = .ok (.return_, 1) := dk_177 (dk_at dksX1_prices_1 6 rfl rfl)
def dkwX1_price_1 : List UInt8 := [50, 3, 46, 42, 28, 182, 0, 132, 100, 42, 180, 0, 11, 28, 50, 4, 46, 29, 104, 100, 184, 0, 129, 172]
abbrev dktX1_price_1 : List UInt8 := dkwX1_price_1 ++ []
def dkwX1_price_0 : List UInt8 := [3, 43, 180, 0, 124, 28, 46, 42, 180, 0, 40, 28, 46, 100, 184, 0, 129, 62, 3, 42, 180, 0, 11, 28]
abbrev dktX1_price_0 : List UInt8 := dkwX1_price_0 ++ dktX1_price_1
theorem dksX1_price_0 : cX1_price.data.toList.drop 0 = dktX1_price_0 := by decide +kernel
theorem dksX1_price_1 : cX1_price.data.toList.drop 24 = dktX1_price_1 := dk_seg dksX1_price_0 24 rfl rfl
theorem dX1_price_0 : decode cX1_price 0 = .ok (.iconst 0, 1) := dk_3 (dk_at dksX1_price_0 0 rfl rfl)
theorem dX1_price_1 : decode cX1_price 1 = .ok (.aload_n 1, 1) := dk_43 (dk_at dksX1_price_0 1 rfl rfl)
theorem dX1_price_2 : decode cX1_price 2 = .ok (.getfield 124, 3) := dk_180 0 124 (dk_at dksX1_price_0 2 rfl rfl)
theorem dX1_price_5 : decode cX1_price 5 = .ok (.iload_n 2, 1) := dk_28 (dk_at dksX1_price_0 5 rfl rfl)
theorem dX1_price_6 : decode cX1_price 6 = .ok (.iaload, 1) := dk_46 (dk_at dksX1_price_0 6 rfl rfl)
theorem dX1_price_7 : decode cX1_price 7 = .ok (.aload_n 0, 1) := dk_42 (dk_at dksX1_price_0 7 rfl rfl)
theorem dX1_price_8 : decode cX1_price 8 = .ok (.getfield 40, 3) := dk_180 0 40 (dk_at dksX1_price_0 8 rfl rfl)
theorem dX1_price_11 : decode cX1_price 11 = .ok (.iload_n 2, 1) := dk_28 (dk_at dksX1_price_0 11 rfl rfl)
theorem dX1_price_12 : decode cX1_price 12 = .ok (.iaload, 1) := dk_46 (dk_at dksX1_price_0 12 rfl rfl)
theorem dX1_price_13 : decode cX1_price 13 = .ok (.isub, 1) := dk_100 (dk_at dksX1_price_0 13 rfl rfl)
theorem dX1_price_14 : decode cX1_price 14 = .ok (.invokestatic 129, 3) := dk_184 0 129 (dk_at dksX1_price_0 14 rfl rfl)
theorem dX1_price_17 : decode cX1_price 17 = .ok (.istore_n 3, 1) := dk_62 (dk_at dksX1_price_0 17 rfl rfl)
theorem dX1_price_18 : decode cX1_price 18 = .ok (.iconst 0, 1) := dk_3 (dk_at dksX1_price_0 18 rfl rfl)
theorem dX1_price_19 : decode cX1_price 19 = .ok (.aload_n 0, 1) := dk_42 (dk_at dksX1_price_0 19 rfl rfl)
theorem dX1_price_20 : decode cX1_price 20 = .ok (.getfield 11, 3) := dk_180 0 11 (dk_at dksX1_price_0 20 rfl rfl)
theorem dX1_price_23 : decode cX1_price 23 = .ok (.iload_n 2, 1) := dk_28 (dk_at dksX1_price_0 23 rfl rfl)
theorem dX1_price_24 : decode cX1_price 24 = .ok (.aaload, 1) := dk_50 (dk_at dksX1_price_1 0 rfl rfl)
theorem dX1_price_25 : decode cX1_price 25 = .ok (.iconst 0, 1) := dk_3 (dk_at dksX1_price_1 1 rfl rfl)
theorem dX1_price_26 : decode cX1_price 26 = .ok (.iaload, 1) := dk_46 (dk_at dksX1_price_1 2 rfl rfl)
theorem dX1_price_27 : decode cX1_price 27 = .ok (.aload_n 0, 1) := dk_42 (dk_at dksX1_price_1 3 rfl rfl)
theorem dX1_price_28 : decode cX1_price 28 = .ok (.iload_n 2, 1) := dk_28 (dk_at dksX1_price_1 4 rfl rfl)
theorem dX1_price_29 : decode cX1_price 29 = .ok (.invokevirtual 132, 3) := dk_182 0 132 (dk_at dksX1_price_1 5 rfl rfl)
theorem dX1_price_32 : decode cX1_price 32 = .ok (.isub, 1) := dk_100 (dk_at dksX1_price_1 8 rfl rfl)
theorem dX1_price_33 : decode cX1_price 33 = .ok (.aload_n 0, 1) := dk_42 (dk_at dksX1_price_1 9 rfl rfl)
theorem dX1_price_34 : decode cX1_price 34 = .ok (.getfield 11, 3) := dk_180 0 11 (dk_at dksX1_price_1 10 rfl rfl)
theorem dX1_price_37 : decode cX1_price 37 = .ok (.iload_n 2, 1) := dk_28 (dk_at dksX1_price_1 13 rfl rfl)
theorem dX1_price_38 : decode cX1_price 38 = .ok (.aaload, 1) := dk_50 (dk_at dksX1_price_1 14 rfl rfl)
theorem dX1_price_39 : decode cX1_price 39 = .ok (.iconst 1, 1) := dk_4 (dk_at dksX1_price_1 15 rfl rfl)
theorem dX1_price_40 : decode cX1_price 40 = .ok (.iaload, 1) := dk_46 (dk_at dksX1_price_1 16 rfl rfl)
theorem dX1_price_41 : decode cX1_price 41 = .ok (.iload_n 3, 1) := dk_29 (dk_at dksX1_price_1 17 rfl rfl)
theorem dX1_price_42 : decode cX1_price 42 = .ok (.imul, 1) := dk_104 (dk_at dksX1_price_1 18 rfl rfl)
theorem dX1_price_43 : decode cX1_price 43 = .ok (.isub, 1) := dk_100 (dk_at dksX1_price_1 19 rfl rfl)
theorem dX1_price_44 : decode cX1_price 44 = .ok (.invokestatic 129, 3) := dk_184 0 129 (dk_at dksX1_price_1 20 rfl rfl)
theorem dX1_price_47 : decode cX1_price 47 = .ok (.ireturn, 1) := dk_172 (dk_at dksX1_price_1 23 rfl rfl)
def dkwX1_shocks_3 : List UInt8 := [182, 0, 115, 96, 61, 132, 7, 1, 167, 255, 214, 132, 5, 1, 167, 255, 192, 28, 172]
abbrev dktX1_shocks_3 : List UInt8 := dkwX1_shocks_3 ++ []
def dkwX1_shocks_2 : List UInt8 := [180, 0, 98, 21, 7, 50, 180, 0, 102, 27, 160, 0, 17, 28, 25, 6, 180, 0, 98, 21, 7, 50]
abbrev dktX1_shocks_2 : List UInt8 := dkwX1_shocks_2 ++ dktX1_shocks_3
def dkwX1_shocks_1 : List UInt8 := [162, 0, 63, 45, 21, 5, 50, 58, 6, 3, 54, 7, 21, 7, 25, 6, 180, 0, 95, 162, 0, 38, 25, 6]
abbrev dktX1_shocks_1 : List UInt8 := dkwX1_shocks_1 ++ dktX1_shocks_2
def dkwX1_shocks_0 : List UInt8 := [42, 180, 0, 47, 27, 46, 61, 42, 180, 0, 36, 78, 45, 190, 54, 4, 3, 54, 5, 21, 5, 21, 4]
abbrev dktX1_shocks_0 : List UInt8 := dkwX1_shocks_0 ++ dktX1_shocks_1
theorem dksX1_shocks_0 : cX1_shocks.data.toList.drop 0 = dktX1_shocks_0 := by decide +kernel
theorem dksX1_shocks_1 : cX1_shocks.data.toList.drop 23 = dktX1_shocks_1 := dk_seg dksX1_shocks_0 23 rfl rfl
theorem dksX1_shocks_2 : cX1_shocks.data.toList.drop 47 = dktX1_shocks_2 := dk_seg dksX1_shocks_1 24 rfl rfl
theorem dksX1_shocks_3 : cX1_shocks.data.toList.drop 69 = dktX1_shocks_3 := dk_seg dksX1_shocks_2 22 rfl rfl
theorem dX1_shocks_0 : decode cX1_shocks 0 = .ok (.aload_n 0, 1) := dk_42 (dk_at dksX1_shocks_0 0 rfl rfl)
theorem dX1_shocks_1 : decode cX1_shocks 1 = .ok (.getfield 47, 3) := dk_180 0 47 (dk_at dksX1_shocks_0 1 rfl rfl)
theorem dX1_shocks_4 : decode cX1_shocks 4 = .ok (.iload_n 1, 1) := dk_27 (dk_at dksX1_shocks_0 4 rfl rfl)
theorem dX1_shocks_5 : decode cX1_shocks 5 = .ok (.iaload, 1) := dk_46 (dk_at dksX1_shocks_0 5 rfl rfl)
theorem dX1_shocks_6 : decode cX1_shocks 6 = .ok (.istore_n 2, 1) := dk_61 (dk_at dksX1_shocks_0 6 rfl rfl)
theorem dX1_shocks_7 : decode cX1_shocks 7 = .ok (.aload_n 0, 1) := dk_42 (dk_at dksX1_shocks_0 7 rfl rfl)
theorem dX1_shocks_8 : decode cX1_shocks 8 = .ok (.getfield 36, 3) := dk_180 0 36 (dk_at dksX1_shocks_0 8 rfl rfl)
theorem dX1_shocks_11 : decode cX1_shocks 11 = .ok (.astore_n 3, 1) := dk_78 (dk_at dksX1_shocks_0 11 rfl rfl)
theorem dX1_shocks_12 : decode cX1_shocks 12 = .ok (.aload_n 3, 1) := dk_45 (dk_at dksX1_shocks_0 12 rfl rfl)
theorem dX1_shocks_13 : decode cX1_shocks 13 = .ok (.arraylength, 1) := dk_190 (dk_at dksX1_shocks_0 13 rfl rfl)
theorem dX1_shocks_14 : decode cX1_shocks 14 = .ok (.istore 4, 2) := dk_54 4 (dk_at dksX1_shocks_0 14 rfl rfl)
theorem dX1_shocks_16 : decode cX1_shocks 16 = .ok (.iconst 0, 1) := dk_3 (dk_at dksX1_shocks_0 16 rfl rfl)
theorem dX1_shocks_17 : decode cX1_shocks 17 = .ok (.istore 5, 2) := dk_54 5 (dk_at dksX1_shocks_0 17 rfl rfl)
theorem dX1_shocks_19 : decode cX1_shocks 19 = .ok (.iload 5, 2) := dk_21 5 (dk_at dksX1_shocks_0 19 rfl rfl)
theorem dX1_shocks_21 : decode cX1_shocks 21 = .ok (.iload 4, 2) := dk_21 4 (dk_at dksX1_shocks_0 21 rfl rfl)
theorem dX1_shocks_23 : decode cX1_shocks 23 = .ok (.if_icmp .ge 63, 3) := dk_162 0 63 (dk_at dksX1_shocks_1 0 rfl rfl)
theorem dX1_shocks_26 : decode cX1_shocks 26 = .ok (.aload_n 3, 1) := dk_45 (dk_at dksX1_shocks_1 3 rfl rfl)
theorem dX1_shocks_27 : decode cX1_shocks 27 = .ok (.iload 5, 2) := dk_21 5 (dk_at dksX1_shocks_1 4 rfl rfl)
theorem dX1_shocks_29 : decode cX1_shocks 29 = .ok (.aaload, 1) := dk_50 (dk_at dksX1_shocks_1 6 rfl rfl)
theorem dX1_shocks_30 : decode cX1_shocks 30 = .ok (.astore 6, 2) := dk_58 6 (dk_at dksX1_shocks_1 7 rfl rfl)
theorem dX1_shocks_32 : decode cX1_shocks 32 = .ok (.iconst 0, 1) := dk_3 (dk_at dksX1_shocks_1 9 rfl rfl)
theorem dX1_shocks_33 : decode cX1_shocks 33 = .ok (.istore 7, 2) := dk_54 7 (dk_at dksX1_shocks_1 10 rfl rfl)
theorem dX1_shocks_35 : decode cX1_shocks 35 = .ok (.iload 7, 2) := dk_21 7 (dk_at dksX1_shocks_1 12 rfl rfl)
theorem dX1_shocks_37 : decode cX1_shocks 37 = .ok (.aload 6, 2) := dk_25 6 (dk_at dksX1_shocks_1 14 rfl rfl)
theorem dX1_shocks_39 : decode cX1_shocks 39 = .ok (.getfield 95, 3) := dk_180 0 95 (dk_at dksX1_shocks_1 16 rfl rfl)
theorem dX1_shocks_42 : decode cX1_shocks 42 = .ok (.if_icmp .ge 38, 3) := dk_162 0 38 (dk_at dksX1_shocks_1 19 rfl rfl)
theorem dX1_shocks_45 : decode cX1_shocks 45 = .ok (.aload 6, 2) := dk_25 6 (dk_at dksX1_shocks_1 22 rfl rfl)
theorem dX1_shocks_47 : decode cX1_shocks 47 = .ok (.getfield 98, 3) := dk_180 0 98 (dk_at dksX1_shocks_2 0 rfl rfl)
theorem dX1_shocks_50 : decode cX1_shocks 50 = .ok (.iload 7, 2) := dk_21 7 (dk_at dksX1_shocks_2 3 rfl rfl)
theorem dX1_shocks_52 : decode cX1_shocks 52 = .ok (.aaload, 1) := dk_50 (dk_at dksX1_shocks_2 5 rfl rfl)
theorem dX1_shocks_53 : decode cX1_shocks 53 = .ok (.getfield 102, 3) := dk_180 0 102 (dk_at dksX1_shocks_2 6 rfl rfl)
theorem dX1_shocks_56 : decode cX1_shocks 56 = .ok (.iload_n 1, 1) := dk_27 (dk_at dksX1_shocks_2 9 rfl rfl)
theorem dX1_shocks_57 : decode cX1_shocks 57 = .ok (.if_icmp .ne 17, 3) := dk_160 0 17 (dk_at dksX1_shocks_2 10 rfl rfl)
theorem dX1_shocks_60 : decode cX1_shocks 60 = .ok (.iload_n 2, 1) := dk_28 (dk_at dksX1_shocks_2 13 rfl rfl)
theorem dX1_shocks_61 : decode cX1_shocks 61 = .ok (.aload 6, 2) := dk_25 6 (dk_at dksX1_shocks_2 14 rfl rfl)
theorem dX1_shocks_63 : decode cX1_shocks 63 = .ok (.getfield 98, 3) := dk_180 0 98 (dk_at dksX1_shocks_2 16 rfl rfl)
theorem dX1_shocks_66 : decode cX1_shocks 66 = .ok (.iload 7, 2) := dk_21 7 (dk_at dksX1_shocks_2 19 rfl rfl)
theorem dX1_shocks_68 : decode cX1_shocks 68 = .ok (.aaload, 1) := dk_50 (dk_at dksX1_shocks_2 21 rfl rfl)
theorem dX1_shocks_69 : decode cX1_shocks 69 = .ok (.invokevirtual 115, 3) := dk_182 0 115 (dk_at dksX1_shocks_3 0 rfl rfl)
theorem dX1_shocks_72 : decode cX1_shocks 72 = .ok (.iadd, 1) := dk_96 (dk_at dksX1_shocks_3 3 rfl rfl)
theorem dX1_shocks_73 : decode cX1_shocks 73 = .ok (.istore_n 2, 1) := dk_61 (dk_at dksX1_shocks_3 4 rfl rfl)
theorem dX1_shocks_74 : decode cX1_shocks 74 = .ok (.iinc 7 1, 3) := dk_132 7 1 (dk_at dksX1_shocks_3 5 rfl rfl)
theorem dX1_shocks_77 : decode cX1_shocks 77 = .ok (.goto (-42), 3) := dk_167 255 214 (dk_at dksX1_shocks_3 8 rfl rfl)
theorem dX1_shocks_80 : decode cX1_shocks 80 = .ok (.iinc 5 1, 3) := dk_132 5 1 (dk_at dksX1_shocks_3 11 rfl rfl)
theorem dX1_shocks_83 : decode cX1_shocks 83 = .ok (.goto (-64), 3) := dk_167 255 192 (dk_at dksX1_shocks_3 14 rfl rfl)
theorem dX1_shocks_86 : decode cX1_shocks 86 = .ok (.iload_n 2, 1) := dk_28 (dk_at dksX1_shocks_3 17 rfl rfl)
theorem dX1_shocks_87 : decode cX1_shocks 87 = .ok (.ireturn, 1) := dk_172 (dk_at dksX1_shocks_3 18 rfl rfl)
def dkwX1_worth_4 : List UInt8 := [50, 21, 4, 46, 100, 96, 62, 132, 4, 1, 167, 255, 209, 29, 172]
abbrev dktX1_worth_4 : List UInt8 := dkwX1_worth_4 ++ []
def dkwX1_worth_3 : List UInt8 := [184, 0, 139, 153, 0, 7, 3, 167, 0, 12, 42, 180, 0, 22, 21, 4, 50, 27, 46, 42, 180, 0, 22, 27]
abbrev dktX1_worth_3 : List UInt8 := dkwX1_worth_3 ++ dktX1_worth_4
def dkwX1_worth_2 : List UInt8 := [96, 62, 132, 4, 1, 167, 255, 224, 3, 54, 4, 21, 4, 42, 180, 0, 74, 162, 0, 44, 29, 28, 21, 4]
abbrev dktX1_worth_2 : List UInt8 := dkwX1_worth_2 ++ dktX1_worth_3
def dkwX1_worth_1 : List UInt8 := [180, 0, 70, 162, 0, 29, 29, 42, 180, 0, 19, 27, 50, 21, 4, 46, 42, 180, 0, 60, 21, 4, 46, 104]
abbrev dktX1_worth_1 : List UInt8 := dkwX1_worth_1 ++ dktX1_worth_2
def dkwX1_worth_0 : List UInt8 := [42, 180, 0, 16, 27, 50, 3, 46, 42, 180, 0, 16, 27, 50, 4, 46, 100, 62, 3, 54, 4, 21, 4, 42]
abbrev dktX1_worth_0 : List UInt8 := dkwX1_worth_0 ++ dktX1_worth_1
theorem dksX1_worth_0 : cX1_worth.data.toList.drop 0 = dktX1_worth_0 := by decide +kernel
theorem dksX1_worth_1 : cX1_worth.data.toList.drop 24 = dktX1_worth_1 := dk_seg dksX1_worth_0 24 rfl rfl
theorem dksX1_worth_2 : cX1_worth.data.toList.drop 48 = dktX1_worth_2 := dk_seg dksX1_worth_1 24 rfl rfl
theorem dksX1_worth_3 : cX1_worth.data.toList.drop 72 = dktX1_worth_3 := dk_seg dksX1_worth_2 24 rfl rfl
theorem dksX1_worth_4 : cX1_worth.data.toList.drop 96 = dktX1_worth_4 := dk_seg dksX1_worth_3 24 rfl rfl
theorem dX1_worth_0 : decode cX1_worth 0 = .ok (.aload_n 0, 1) := dk_42 (dk_at dksX1_worth_0 0 rfl rfl)
theorem dX1_worth_1 : decode cX1_worth 1 = .ok (.getfield 16, 3) := dk_180 0 16 (dk_at dksX1_worth_0 1 rfl rfl)
theorem dX1_worth_4 : decode cX1_worth 4 = .ok (.iload_n 1, 1) := dk_27 (dk_at dksX1_worth_0 4 rfl rfl)
theorem dX1_worth_5 : decode cX1_worth 5 = .ok (.aaload, 1) := dk_50 (dk_at dksX1_worth_0 5 rfl rfl)
theorem dX1_worth_6 : decode cX1_worth 6 = .ok (.iconst 0, 1) := dk_3 (dk_at dksX1_worth_0 6 rfl rfl)
theorem dX1_worth_7 : decode cX1_worth 7 = .ok (.iaload, 1) := dk_46 (dk_at dksX1_worth_0 7 rfl rfl)
theorem dX1_worth_8 : decode cX1_worth 8 = .ok (.aload_n 0, 1) := dk_42 (dk_at dksX1_worth_0 8 rfl rfl)
theorem dX1_worth_9 : decode cX1_worth 9 = .ok (.getfield 16, 3) := dk_180 0 16 (dk_at dksX1_worth_0 9 rfl rfl)
theorem dX1_worth_12 : decode cX1_worth 12 = .ok (.iload_n 1, 1) := dk_27 (dk_at dksX1_worth_0 12 rfl rfl)
theorem dX1_worth_13 : decode cX1_worth 13 = .ok (.aaload, 1) := dk_50 (dk_at dksX1_worth_0 13 rfl rfl)
theorem dX1_worth_14 : decode cX1_worth 14 = .ok (.iconst 1, 1) := dk_4 (dk_at dksX1_worth_0 14 rfl rfl)
theorem dX1_worth_15 : decode cX1_worth 15 = .ok (.iaload, 1) := dk_46 (dk_at dksX1_worth_0 15 rfl rfl)
theorem dX1_worth_16 : decode cX1_worth 16 = .ok (.isub, 1) := dk_100 (dk_at dksX1_worth_0 16 rfl rfl)
theorem dX1_worth_17 : decode cX1_worth 17 = .ok (.istore_n 3, 1) := dk_62 (dk_at dksX1_worth_0 17 rfl rfl)
theorem dX1_worth_18 : decode cX1_worth 18 = .ok (.iconst 0, 1) := dk_3 (dk_at dksX1_worth_0 18 rfl rfl)
theorem dX1_worth_19 : decode cX1_worth 19 = .ok (.istore 4, 2) := dk_54 4 (dk_at dksX1_worth_0 19 rfl rfl)
theorem dX1_worth_21 : decode cX1_worth 21 = .ok (.iload 4, 2) := dk_21 4 (dk_at dksX1_worth_0 21 rfl rfl)
theorem dX1_worth_23 : decode cX1_worth 23 = .ok (.aload_n 0, 1) := dk_42 (dk_at dksX1_worth_0 23 rfl rfl)
theorem dX1_worth_24 : decode cX1_worth 24 = .ok (.getfield 70, 3) := dk_180 0 70 (dk_at dksX1_worth_1 0 rfl rfl)
theorem dX1_worth_27 : decode cX1_worth 27 = .ok (.if_icmp .ge 29, 3) := dk_162 0 29 (dk_at dksX1_worth_1 3 rfl rfl)
theorem dX1_worth_30 : decode cX1_worth 30 = .ok (.iload_n 3, 1) := dk_29 (dk_at dksX1_worth_1 6 rfl rfl)
theorem dX1_worth_31 : decode cX1_worth 31 = .ok (.aload_n 0, 1) := dk_42 (dk_at dksX1_worth_1 7 rfl rfl)
theorem dX1_worth_32 : decode cX1_worth 32 = .ok (.getfield 19, 3) := dk_180 0 19 (dk_at dksX1_worth_1 8 rfl rfl)
theorem dX1_worth_35 : decode cX1_worth 35 = .ok (.iload_n 1, 1) := dk_27 (dk_at dksX1_worth_1 11 rfl rfl)
theorem dX1_worth_36 : decode cX1_worth 36 = .ok (.aaload, 1) := dk_50 (dk_at dksX1_worth_1 12 rfl rfl)
theorem dX1_worth_37 : decode cX1_worth 37 = .ok (.iload 4, 2) := dk_21 4 (dk_at dksX1_worth_1 13 rfl rfl)
theorem dX1_worth_39 : decode cX1_worth 39 = .ok (.iaload, 1) := dk_46 (dk_at dksX1_worth_1 15 rfl rfl)
theorem dX1_worth_40 : decode cX1_worth 40 = .ok (.aload_n 0, 1) := dk_42 (dk_at dksX1_worth_1 16 rfl rfl)
theorem dX1_worth_41 : decode cX1_worth 41 = .ok (.getfield 60, 3) := dk_180 0 60 (dk_at dksX1_worth_1 17 rfl rfl)
theorem dX1_worth_44 : decode cX1_worth 44 = .ok (.iload 4, 2) := dk_21 4 (dk_at dksX1_worth_1 20 rfl rfl)
theorem dX1_worth_46 : decode cX1_worth 46 = .ok (.iaload, 1) := dk_46 (dk_at dksX1_worth_1 22 rfl rfl)
theorem dX1_worth_47 : decode cX1_worth 47 = .ok (.imul, 1) := dk_104 (dk_at dksX1_worth_1 23 rfl rfl)
theorem dX1_worth_48 : decode cX1_worth 48 = .ok (.iadd, 1) := dk_96 (dk_at dksX1_worth_2 0 rfl rfl)
theorem dX1_worth_49 : decode cX1_worth 49 = .ok (.istore_n 3, 1) := dk_62 (dk_at dksX1_worth_2 1 rfl rfl)
theorem dX1_worth_50 : decode cX1_worth 50 = .ok (.iinc 4 1, 3) := dk_132 4 1 (dk_at dksX1_worth_2 2 rfl rfl)
theorem dX1_worth_53 : decode cX1_worth 53 = .ok (.goto (-32), 3) := dk_167 255 224 (dk_at dksX1_worth_2 5 rfl rfl)
theorem dX1_worth_56 : decode cX1_worth 56 = .ok (.iconst 0, 1) := dk_3 (dk_at dksX1_worth_2 8 rfl rfl)
theorem dX1_worth_57 : decode cX1_worth 57 = .ok (.istore 4, 2) := dk_54 4 (dk_at dksX1_worth_2 9 rfl rfl)
theorem dX1_worth_59 : decode cX1_worth 59 = .ok (.iload 4, 2) := dk_21 4 (dk_at dksX1_worth_2 11 rfl rfl)
theorem dX1_worth_61 : decode cX1_worth 61 = .ok (.aload_n 0, 1) := dk_42 (dk_at dksX1_worth_2 13 rfl rfl)
theorem dX1_worth_62 : decode cX1_worth 62 = .ok (.getfield 74, 3) := dk_180 0 74 (dk_at dksX1_worth_2 14 rfl rfl)
theorem dX1_worth_65 : decode cX1_worth 65 = .ok (.if_icmp .ge 44, 3) := dk_162 0 44 (dk_at dksX1_worth_2 17 rfl rfl)
theorem dX1_worth_68 : decode cX1_worth 68 = .ok (.iload_n 3, 1) := dk_29 (dk_at dksX1_worth_2 20 rfl rfl)
theorem dX1_worth_69 : decode cX1_worth 69 = .ok (.iload_n 2, 1) := dk_28 (dk_at dksX1_worth_2 21 rfl rfl)
theorem dX1_worth_70 : decode cX1_worth 70 = .ok (.iload 4, 2) := dk_21 4 (dk_at dksX1_worth_2 22 rfl rfl)
theorem dX1_worth_72 : decode cX1_worth 72 = .ok (.invokestatic 139, 3) := dk_184 0 139 (dk_at dksX1_worth_3 0 rfl rfl)
theorem dX1_worth_75 : decode cX1_worth 75 = .ok (.ifCond .eq 7, 3) := dk_153 0 7 (dk_at dksX1_worth_3 3 rfl rfl)
theorem dX1_worth_78 : decode cX1_worth 78 = .ok (.iconst 0, 1) := dk_3 (dk_at dksX1_worth_3 6 rfl rfl)
theorem dX1_worth_79 : decode cX1_worth 79 = .ok (.goto 12, 3) := dk_167 0 12 (dk_at dksX1_worth_3 7 rfl rfl)
theorem dX1_worth_82 : decode cX1_worth 82 = .ok (.aload_n 0, 1) := dk_42 (dk_at dksX1_worth_3 10 rfl rfl)
theorem dX1_worth_83 : decode cX1_worth 83 = .ok (.getfield 22, 3) := dk_180 0 22 (dk_at dksX1_worth_3 11 rfl rfl)
theorem dX1_worth_86 : decode cX1_worth 86 = .ok (.iload 4, 2) := dk_21 4 (dk_at dksX1_worth_3 14 rfl rfl)
theorem dX1_worth_88 : decode cX1_worth 88 = .ok (.aaload, 1) := dk_50 (dk_at dksX1_worth_3 16 rfl rfl)
theorem dX1_worth_89 : decode cX1_worth 89 = .ok (.iload_n 1, 1) := dk_27 (dk_at dksX1_worth_3 17 rfl rfl)
theorem dX1_worth_90 : decode cX1_worth 90 = .ok (.iaload, 1) := dk_46 (dk_at dksX1_worth_3 18 rfl rfl)
theorem dX1_worth_91 : decode cX1_worth 91 = .ok (.aload_n 0, 1) := dk_42 (dk_at dksX1_worth_3 19 rfl rfl)
theorem dX1_worth_92 : decode cX1_worth 92 = .ok (.getfield 22, 3) := dk_180 0 22 (dk_at dksX1_worth_3 20 rfl rfl)
theorem dX1_worth_95 : decode cX1_worth 95 = .ok (.iload_n 1, 1) := dk_27 (dk_at dksX1_worth_3 23 rfl rfl)
theorem dX1_worth_96 : decode cX1_worth 96 = .ok (.aaload, 1) := dk_50 (dk_at dksX1_worth_4 0 rfl rfl)
theorem dX1_worth_97 : decode cX1_worth 97 = .ok (.iload 4, 2) := dk_21 4 (dk_at dksX1_worth_4 1 rfl rfl)
theorem dX1_worth_99 : decode cX1_worth 99 = .ok (.iaload, 1) := dk_46 (dk_at dksX1_worth_4 3 rfl rfl)
theorem dX1_worth_100 : decode cX1_worth 100 = .ok (.isub, 1) := dk_100 (dk_at dksX1_worth_4 4 rfl rfl)
theorem dX1_worth_101 : decode cX1_worth 101 = .ok (.iadd, 1) := dk_96 (dk_at dksX1_worth_4 5 rfl rfl)
theorem dX1_worth_102 : decode cX1_worth 102 = .ok (.istore_n 3, 1) := dk_62 (dk_at dksX1_worth_4 6 rfl rfl)
theorem dX1_worth_103 : decode cX1_worth 103 = .ok (.iinc 4 1, 3) := dk_132 4 1 (dk_at dksX1_worth_4 7 rfl rfl)
theorem dX1_worth_106 : decode cX1_worth 106 = .ok (.goto (-47), 3) := dk_167 255 209 (dk_at dksX1_worth_4 10 rfl rfl)
theorem dX1_worth_109 : decode cX1_worth 109 = .ok (.iload_n 3, 1) := dk_29 (dk_at dksX1_worth_4 13 rfl rfl)
theorem dX1_worth_110 : decode cX1_worth 110 = .ok (.ireturn, 1) := dk_172 (dk_at dksX1_worth_4 14 rfl rfl)
def dkwX1_mustSell_2 : List UInt8 := [21, 5, 108, 184, 0, 109, 172]
abbrev dktX1_mustSell_2 : List UInt8 := dkwX1_mustSell_2 ++ []
def dkwX1_mustSell_1 : List UInt8 := [184, 0, 129, 54, 4, 42, 180, 0, 16, 27, 50, 6, 46, 54, 5, 29, 21, 4, 21, 5, 96, 4, 100]
abbrev dktX1_mustSell_1 : List UInt8 := dkwX1_mustSell_1 ++ dktX1_mustSell_2
def dkwX1_mustSell_0 : List UInt8 := [42, 27, 182, 0, 150, 62, 28, 156, 0, 5, 29, 172, 3, 42, 180, 0, 16, 27, 50, 5, 46, 28, 100]
abbrev dktX1_mustSell_0 : List UInt8 := dkwX1_mustSell_0 ++ dktX1_mustSell_1
theorem dksX1_mustSell_0 : cX1_mustSell.data.toList.drop 0 = dktX1_mustSell_0 := by decide +kernel
theorem dksX1_mustSell_1 : cX1_mustSell.data.toList.drop 23 = dktX1_mustSell_1 := dk_seg dksX1_mustSell_0 23 rfl rfl
theorem dksX1_mustSell_2 : cX1_mustSell.data.toList.drop 46 = dktX1_mustSell_2 := dk_seg dksX1_mustSell_1 23 rfl rfl
theorem dX1_mustSell_0 : decode cX1_mustSell 0 = .ok (.aload_n 0, 1) := dk_42 (dk_at dksX1_mustSell_0 0 rfl rfl)
theorem dX1_mustSell_1 : decode cX1_mustSell 1 = .ok (.iload_n 1, 1) := dk_27 (dk_at dksX1_mustSell_0 1 rfl rfl)
theorem dX1_mustSell_2 : decode cX1_mustSell 2 = .ok (.invokevirtual 150, 3) := dk_182 0 150 (dk_at dksX1_mustSell_0 2 rfl rfl)
theorem dX1_mustSell_5 : decode cX1_mustSell 5 = .ok (.istore_n 3, 1) := dk_62 (dk_at dksX1_mustSell_0 5 rfl rfl)
theorem dX1_mustSell_6 : decode cX1_mustSell 6 = .ok (.iload_n 2, 1) := dk_28 (dk_at dksX1_mustSell_0 6 rfl rfl)
theorem dX1_mustSell_7 : decode cX1_mustSell 7 = .ok (.ifCond .ge 5, 3) := dk_156 0 5 (dk_at dksX1_mustSell_0 7 rfl rfl)
theorem dX1_mustSell_10 : decode cX1_mustSell 10 = .ok (.iload_n 3, 1) := dk_29 (dk_at dksX1_mustSell_0 10 rfl rfl)
theorem dX1_mustSell_11 : decode cX1_mustSell 11 = .ok (.ireturn, 1) := dk_172 (dk_at dksX1_mustSell_0 11 rfl rfl)
theorem dX1_mustSell_12 : decode cX1_mustSell 12 = .ok (.iconst 0, 1) := dk_3 (dk_at dksX1_mustSell_0 12 rfl rfl)
theorem dX1_mustSell_13 : decode cX1_mustSell 13 = .ok (.aload_n 0, 1) := dk_42 (dk_at dksX1_mustSell_0 13 rfl rfl)
theorem dX1_mustSell_14 : decode cX1_mustSell 14 = .ok (.getfield 16, 3) := dk_180 0 16 (dk_at dksX1_mustSell_0 14 rfl rfl)
theorem dX1_mustSell_17 : decode cX1_mustSell 17 = .ok (.iload_n 1, 1) := dk_27 (dk_at dksX1_mustSell_0 17 rfl rfl)
theorem dX1_mustSell_18 : decode cX1_mustSell 18 = .ok (.aaload, 1) := dk_50 (dk_at dksX1_mustSell_0 18 rfl rfl)
theorem dX1_mustSell_19 : decode cX1_mustSell 19 = .ok (.iconst 2, 1) := dk_5 (dk_at dksX1_mustSell_0 19 rfl rfl)
theorem dX1_mustSell_20 : decode cX1_mustSell 20 = .ok (.iaload, 1) := dk_46 (dk_at dksX1_mustSell_0 20 rfl rfl)
theorem dX1_mustSell_21 : decode cX1_mustSell 21 = .ok (.iload_n 2, 1) := dk_28 (dk_at dksX1_mustSell_0 21 rfl rfl)
theorem dX1_mustSell_22 : decode cX1_mustSell 22 = .ok (.isub, 1) := dk_100 (dk_at dksX1_mustSell_0 22 rfl rfl)
theorem dX1_mustSell_23 : decode cX1_mustSell 23 = .ok (.invokestatic 129, 3) := dk_184 0 129 (dk_at dksX1_mustSell_1 0 rfl rfl)
theorem dX1_mustSell_26 : decode cX1_mustSell 26 = .ok (.istore 4, 2) := dk_54 4 (dk_at dksX1_mustSell_1 3 rfl rfl)
theorem dX1_mustSell_28 : decode cX1_mustSell 28 = .ok (.aload_n 0, 1) := dk_42 (dk_at dksX1_mustSell_1 5 rfl rfl)
theorem dX1_mustSell_29 : decode cX1_mustSell 29 = .ok (.getfield 16, 3) := dk_180 0 16 (dk_at dksX1_mustSell_1 6 rfl rfl)
theorem dX1_mustSell_32 : decode cX1_mustSell 32 = .ok (.iload_n 1, 1) := dk_27 (dk_at dksX1_mustSell_1 9 rfl rfl)
theorem dX1_mustSell_33 : decode cX1_mustSell 33 = .ok (.aaload, 1) := dk_50 (dk_at dksX1_mustSell_1 10 rfl rfl)
theorem dX1_mustSell_34 : decode cX1_mustSell 34 = .ok (.iconst 3, 1) := dk_6 (dk_at dksX1_mustSell_1 11 rfl rfl)
theorem dX1_mustSell_35 : decode cX1_mustSell 35 = .ok (.iaload, 1) := dk_46 (dk_at dksX1_mustSell_1 12 rfl rfl)
theorem dX1_mustSell_36 : decode cX1_mustSell 36 = .ok (.istore 5, 2) := dk_54 5 (dk_at dksX1_mustSell_1 13 rfl rfl)
theorem dX1_mustSell_38 : decode cX1_mustSell 38 = .ok (.iload_n 3, 1) := dk_29 (dk_at dksX1_mustSell_1 15 rfl rfl)
theorem dX1_mustSell_39 : decode cX1_mustSell 39 = .ok (.iload 4, 2) := dk_21 4 (dk_at dksX1_mustSell_1 16 rfl rfl)
theorem dX1_mustSell_41 : decode cX1_mustSell 41 = .ok (.iload 5, 2) := dk_21 5 (dk_at dksX1_mustSell_1 18 rfl rfl)
theorem dX1_mustSell_43 : decode cX1_mustSell 43 = .ok (.iadd, 1) := dk_96 (dk_at dksX1_mustSell_1 20 rfl rfl)
theorem dX1_mustSell_44 : decode cX1_mustSell 44 = .ok (.iconst 1, 1) := dk_4 (dk_at dksX1_mustSell_1 21 rfl rfl)
theorem dX1_mustSell_45 : decode cX1_mustSell 45 = .ok (.isub, 1) := dk_100 (dk_at dksX1_mustSell_1 22 rfl rfl)
theorem dX1_mustSell_46 : decode cX1_mustSell 46 = .ok (.iload 5, 2) := dk_21 5 (dk_at dksX1_mustSell_2 0 rfl rfl)
theorem dX1_mustSell_48 : decode cX1_mustSell 48 = .ok (.idiv, 1) := dk_108 (dk_at dksX1_mustSell_2 2 rfl rfl)
theorem dX1_mustSell_49 : decode cX1_mustSell 49 = .ok (.invokestatic 109, 3) := dk_184 0 109 (dk_at dksX1_mustSell_2 3 rfl rfl)
theorem dX1_mustSell_52 : decode cX1_mustSell 52 = .ok (.ireturn, 1) := dk_172 (dk_at dksX1_mustSell_2 6 rfl rfl)
def dkwX1_pieces_1 : List UInt8 := [21, 5, 46, 54, 6, 28, 21, 6, 96, 61, 132, 5, 1, 167, 255, 235, 28, 172]
abbrev dktX1_pieces_1 : List UInt8 := dkwX1_pieces_1 ++ []
def dkwX1_pieces_0 : List UInt8 := [3, 61, 42, 180, 0, 19, 27, 50, 78, 45, 190, 54, 4, 3, 54, 5, 21, 5, 21, 4, 162, 0, 20, 45]
abbrev dktX1_pieces_0 : List UInt8 := dkwX1_pieces_0 ++ dktX1_pieces_1
theorem dksX1_pieces_0 : cX1_pieces.data.toList.drop 0 = dktX1_pieces_0 := by decide +kernel
theorem dksX1_pieces_1 : cX1_pieces.data.toList.drop 24 = dktX1_pieces_1 := dk_seg dksX1_pieces_0 24 rfl rfl
theorem dX1_pieces_0 : decode cX1_pieces 0 = .ok (.iconst 0, 1) := dk_3 (dk_at dksX1_pieces_0 0 rfl rfl)
theorem dX1_pieces_1 : decode cX1_pieces 1 = .ok (.istore_n 2, 1) := dk_61 (dk_at dksX1_pieces_0 1 rfl rfl)
theorem dX1_pieces_2 : decode cX1_pieces 2 = .ok (.aload_n 0, 1) := dk_42 (dk_at dksX1_pieces_0 2 rfl rfl)
theorem dX1_pieces_3 : decode cX1_pieces 3 = .ok (.getfield 19, 3) := dk_180 0 19 (dk_at dksX1_pieces_0 3 rfl rfl)
theorem dX1_pieces_6 : decode cX1_pieces 6 = .ok (.iload_n 1, 1) := dk_27 (dk_at dksX1_pieces_0 6 rfl rfl)
theorem dX1_pieces_7 : decode cX1_pieces 7 = .ok (.aaload, 1) := dk_50 (dk_at dksX1_pieces_0 7 rfl rfl)
theorem dX1_pieces_8 : decode cX1_pieces 8 = .ok (.astore_n 3, 1) := dk_78 (dk_at dksX1_pieces_0 8 rfl rfl)
theorem dX1_pieces_9 : decode cX1_pieces 9 = .ok (.aload_n 3, 1) := dk_45 (dk_at dksX1_pieces_0 9 rfl rfl)
theorem dX1_pieces_10 : decode cX1_pieces 10 = .ok (.arraylength, 1) := dk_190 (dk_at dksX1_pieces_0 10 rfl rfl)
theorem dX1_pieces_11 : decode cX1_pieces 11 = .ok (.istore 4, 2) := dk_54 4 (dk_at dksX1_pieces_0 11 rfl rfl)
theorem dX1_pieces_13 : decode cX1_pieces 13 = .ok (.iconst 0, 1) := dk_3 (dk_at dksX1_pieces_0 13 rfl rfl)
theorem dX1_pieces_14 : decode cX1_pieces 14 = .ok (.istore 5, 2) := dk_54 5 (dk_at dksX1_pieces_0 14 rfl rfl)
theorem dX1_pieces_16 : decode cX1_pieces 16 = .ok (.iload 5, 2) := dk_21 5 (dk_at dksX1_pieces_0 16 rfl rfl)
theorem dX1_pieces_18 : decode cX1_pieces 18 = .ok (.iload 4, 2) := dk_21 4 (dk_at dksX1_pieces_0 18 rfl rfl)
theorem dX1_pieces_20 : decode cX1_pieces 20 = .ok (.if_icmp .ge 20, 3) := dk_162 0 20 (dk_at dksX1_pieces_0 20 rfl rfl)
theorem dX1_pieces_23 : decode cX1_pieces 23 = .ok (.aload_n 3, 1) := dk_45 (dk_at dksX1_pieces_0 23 rfl rfl)
theorem dX1_pieces_24 : decode cX1_pieces 24 = .ok (.iload 5, 2) := dk_21 5 (dk_at dksX1_pieces_1 0 rfl rfl)
theorem dX1_pieces_26 : decode cX1_pieces 26 = .ok (.iaload, 1) := dk_46 (dk_at dksX1_pieces_1 2 rfl rfl)
theorem dX1_pieces_27 : decode cX1_pieces 27 = .ok (.istore 6, 2) := dk_54 6 (dk_at dksX1_pieces_1 3 rfl rfl)
theorem dX1_pieces_29 : decode cX1_pieces 29 = .ok (.iload_n 2, 1) := dk_28 (dk_at dksX1_pieces_1 5 rfl rfl)
theorem dX1_pieces_30 : decode cX1_pieces 30 = .ok (.iload 6, 2) := dk_21 6 (dk_at dksX1_pieces_1 6 rfl rfl)
theorem dX1_pieces_32 : decode cX1_pieces 32 = .ok (.iadd, 1) := dk_96 (dk_at dksX1_pieces_1 8 rfl rfl)
theorem dX1_pieces_33 : decode cX1_pieces 33 = .ok (.istore_n 2, 1) := dk_61 (dk_at dksX1_pieces_1 9 rfl rfl)
theorem dX1_pieces_34 : decode cX1_pieces 34 = .ok (.iinc 5 1, 3) := dk_132 5 1 (dk_at dksX1_pieces_1 10 rfl rfl)
theorem dX1_pieces_37 : decode cX1_pieces 37 = .ok (.goto (-21), 3) := dk_167 255 235 (dk_at dksX1_pieces_1 13 rfl rfl)
theorem dX1_pieces_40 : decode cX1_pieces 40 = .ok (.iload_n 2, 1) := dk_28 (dk_at dksX1_pieces_1 16 rfl rfl)
theorem dX1_pieces_41 : decode cX1_pieces 41 = .ok (.ireturn, 1) := dk_172 (dk_at dksX1_pieces_1 17 rfl rfl)
def dkwX1_sells_3 : List UInt8 := [21, 7, 100, 54, 4, 132, 5, 1, 167, 255, 185, 177]
abbrev dktX1_sells_3 : List UInt8 := dkwX1_sells_3 ++ []
def dkwX1_sells_2 : List UInt8 := [180, 0, 19, 27, 50, 21, 6, 46, 184, 0, 109, 54, 7, 45, 21, 6, 92, 46, 21, 7, 96, 79, 21, 4]
abbrev dktX1_sells_2 : List UInt8 := dkwX1_sells_2 ++ dktX1_sells_3
def dkwX1_sells_1 : List UInt8 := [154, 0, 8, 21, 5, 167, 0, 12, 42, 180, 0, 70, 4, 100, 21, 5, 100, 54, 6, 21, 4, 42]
abbrev dktX1_sells_1 : List UInt8 := dkwX1_sells_1 ++ dktX1_sells_2
def dkwX1_sells_0 : List UInt8 := [28, 54, 4, 3, 54, 5, 21, 5, 42, 180, 0, 70, 162, 0, 68, 42, 180, 0, 16, 27, 50, 7, 46]
abbrev dktX1_sells_0 : List UInt8 := dkwX1_sells_0 ++ dktX1_sells_1
theorem dksX1_sells_0 : cX1_sells.data.toList.drop 0 = dktX1_sells_0 := by decide +kernel
theorem dksX1_sells_1 : cX1_sells.data.toList.drop 23 = dktX1_sells_1 := dk_seg dksX1_sells_0 23 rfl rfl
theorem dksX1_sells_2 : cX1_sells.data.toList.drop 45 = dktX1_sells_2 := dk_seg dksX1_sells_1 22 rfl rfl
theorem dksX1_sells_3 : cX1_sells.data.toList.drop 69 = dktX1_sells_3 := dk_seg dksX1_sells_2 24 rfl rfl
theorem dX1_sells_0 : decode cX1_sells 0 = .ok (.iload_n 2, 1) := dk_28 (dk_at dksX1_sells_0 0 rfl rfl)
theorem dX1_sells_1 : decode cX1_sells 1 = .ok (.istore 4, 2) := dk_54 4 (dk_at dksX1_sells_0 1 rfl rfl)
theorem dX1_sells_3 : decode cX1_sells 3 = .ok (.iconst 0, 1) := dk_3 (dk_at dksX1_sells_0 3 rfl rfl)
theorem dX1_sells_4 : decode cX1_sells 4 = .ok (.istore 5, 2) := dk_54 5 (dk_at dksX1_sells_0 4 rfl rfl)
theorem dX1_sells_6 : decode cX1_sells 6 = .ok (.iload 5, 2) := dk_21 5 (dk_at dksX1_sells_0 6 rfl rfl)
theorem dX1_sells_8 : decode cX1_sells 8 = .ok (.aload_n 0, 1) := dk_42 (dk_at dksX1_sells_0 8 rfl rfl)
theorem dX1_sells_9 : decode cX1_sells 9 = .ok (.getfield 70, 3) := dk_180 0 70 (dk_at dksX1_sells_0 9 rfl rfl)
theorem dX1_sells_12 : decode cX1_sells 12 = .ok (.if_icmp .ge 68, 3) := dk_162 0 68 (dk_at dksX1_sells_0 12 rfl rfl)
theorem dX1_sells_15 : decode cX1_sells 15 = .ok (.aload_n 0, 1) := dk_42 (dk_at dksX1_sells_0 15 rfl rfl)
theorem dX1_sells_16 : decode cX1_sells 16 = .ok (.getfield 16, 3) := dk_180 0 16 (dk_at dksX1_sells_0 16 rfl rfl)
theorem dX1_sells_19 : decode cX1_sells 19 = .ok (.iload_n 1, 1) := dk_27 (dk_at dksX1_sells_0 19 rfl rfl)
theorem dX1_sells_20 : decode cX1_sells 20 = .ok (.aaload, 1) := dk_50 (dk_at dksX1_sells_0 20 rfl rfl)
theorem dX1_sells_21 : decode cX1_sells 21 = .ok (.iconst 4, 1) := dk_7 (dk_at dksX1_sells_0 21 rfl rfl)
theorem dX1_sells_22 : decode cX1_sells 22 = .ok (.iaload, 1) := dk_46 (dk_at dksX1_sells_0 22 rfl rfl)
theorem dX1_sells_23 : decode cX1_sells 23 = .ok (.ifCond .ne 8, 3) := dk_154 0 8 (dk_at dksX1_sells_1 0 rfl rfl)
theorem dX1_sells_26 : decode cX1_sells 26 = .ok (.iload 5, 2) := dk_21 5 (dk_at dksX1_sells_1 3 rfl rfl)
theorem dX1_sells_28 : decode cX1_sells 28 = .ok (.goto 12, 3) := dk_167 0 12 (dk_at dksX1_sells_1 5 rfl rfl)
theorem dX1_sells_31 : decode cX1_sells 31 = .ok (.aload_n 0, 1) := dk_42 (dk_at dksX1_sells_1 8 rfl rfl)
theorem dX1_sells_32 : decode cX1_sells 32 = .ok (.getfield 70, 3) := dk_180 0 70 (dk_at dksX1_sells_1 9 rfl rfl)
theorem dX1_sells_35 : decode cX1_sells 35 = .ok (.iconst 1, 1) := dk_4 (dk_at dksX1_sells_1 12 rfl rfl)
theorem dX1_sells_36 : decode cX1_sells 36 = .ok (.isub, 1) := dk_100 (dk_at dksX1_sells_1 13 rfl rfl)
theorem dX1_sells_37 : decode cX1_sells 37 = .ok (.iload 5, 2) := dk_21 5 (dk_at dksX1_sells_1 14 rfl rfl)
theorem dX1_sells_39 : decode cX1_sells 39 = .ok (.isub, 1) := dk_100 (dk_at dksX1_sells_1 16 rfl rfl)
theorem dX1_sells_40 : decode cX1_sells 40 = .ok (.istore 6, 2) := dk_54 6 (dk_at dksX1_sells_1 17 rfl rfl)
theorem dX1_sells_42 : decode cX1_sells 42 = .ok (.iload 4, 2) := dk_21 4 (dk_at dksX1_sells_1 19 rfl rfl)
theorem dX1_sells_44 : decode cX1_sells 44 = .ok (.aload_n 0, 1) := dk_42 (dk_at dksX1_sells_1 21 rfl rfl)
theorem dX1_sells_45 : decode cX1_sells 45 = .ok (.getfield 19, 3) := dk_180 0 19 (dk_at dksX1_sells_2 0 rfl rfl)
theorem dX1_sells_48 : decode cX1_sells 48 = .ok (.iload_n 1, 1) := dk_27 (dk_at dksX1_sells_2 3 rfl rfl)
theorem dX1_sells_49 : decode cX1_sells 49 = .ok (.aaload, 1) := dk_50 (dk_at dksX1_sells_2 4 rfl rfl)
theorem dX1_sells_50 : decode cX1_sells 50 = .ok (.iload 6, 2) := dk_21 6 (dk_at dksX1_sells_2 5 rfl rfl)
theorem dX1_sells_52 : decode cX1_sells 52 = .ok (.iaload, 1) := dk_46 (dk_at dksX1_sells_2 7 rfl rfl)
theorem dX1_sells_53 : decode cX1_sells 53 = .ok (.invokestatic 109, 3) := dk_184 0 109 (dk_at dksX1_sells_2 8 rfl rfl)
theorem dX1_sells_56 : decode cX1_sells 56 = .ok (.istore 7, 2) := dk_54 7 (dk_at dksX1_sells_2 11 rfl rfl)
theorem dX1_sells_58 : decode cX1_sells 58 = .ok (.aload_n 3, 1) := dk_45 (dk_at dksX1_sells_2 13 rfl rfl)
theorem dX1_sells_59 : decode cX1_sells 59 = .ok (.iload 6, 2) := dk_21 6 (dk_at dksX1_sells_2 14 rfl rfl)
theorem dX1_sells_61 : decode cX1_sells 61 = .ok (.dup2, 1) := dk_92 (dk_at dksX1_sells_2 16 rfl rfl)
theorem dX1_sells_62 : decode cX1_sells 62 = .ok (.iaload, 1) := dk_46 (dk_at dksX1_sells_2 17 rfl rfl)
theorem dX1_sells_63 : decode cX1_sells 63 = .ok (.iload 7, 2) := dk_21 7 (dk_at dksX1_sells_2 18 rfl rfl)
theorem dX1_sells_65 : decode cX1_sells 65 = .ok (.iadd, 1) := dk_96 (dk_at dksX1_sells_2 20 rfl rfl)
theorem dX1_sells_66 : decode cX1_sells 66 = .ok (.iastore, 1) := dk_79 (dk_at dksX1_sells_2 21 rfl rfl)
theorem dX1_sells_67 : decode cX1_sells 67 = .ok (.iload 4, 2) := dk_21 4 (dk_at dksX1_sells_2 22 rfl rfl)
theorem dX1_sells_69 : decode cX1_sells 69 = .ok (.iload 7, 2) := dk_21 7 (dk_at dksX1_sells_3 0 rfl rfl)
theorem dX1_sells_71 : decode cX1_sells 71 = .ok (.isub, 1) := dk_100 (dk_at dksX1_sells_3 2 rfl rfl)
theorem dX1_sells_72 : decode cX1_sells 72 = .ok (.istore 4, 2) := dk_54 4 (dk_at dksX1_sells_3 3 rfl rfl)
theorem dX1_sells_74 : decode cX1_sells 74 = .ok (.iinc 5 1, 3) := dk_132 5 1 (dk_at dksX1_sells_3 5 rfl rfl)
theorem dX1_sells_77 : decode cX1_sells 77 = .ok (.goto (-71), 3) := dk_167 255 185 (dk_at dksX1_sells_3 8 rfl rfl)
theorem dX1_sells_80 : decode cX1_sells 80 = .ok (.return_, 1) := dk_177 (dk_at dksX1_sells_3 11 rfl rfl)
def dkwX1_cap_3 : List UInt8 := [182, 0, 105, 184, 0, 109, 61, 132, 7, 1, 167, 255, 212, 132, 5, 1, 167, 255, 190, 28, 172]
abbrev dktX1_cap_3 : List UInt8 := dkwX1_cap_3 ++ []
def dkwX1_cap_2 : List UInt8 := [180, 0, 98, 21, 7, 50, 180, 0, 102, 27, 160, 0, 19, 28, 25, 6, 180, 0, 98, 21, 7, 50]
abbrev dktX1_cap_2 : List UInt8 := dkwX1_cap_2 ++ dktX1_cap_3
def dkwX1_cap_1 : List UInt8 := [162, 0, 65, 45, 21, 5, 50, 58, 6, 3, 54, 7, 21, 7, 25, 6, 180, 0, 95, 162, 0, 40, 25, 6]
abbrev dktX1_cap_1 : List UInt8 := dkwX1_cap_1 ++ dktX1_cap_2
def dkwX1_cap_0 : List UInt8 := [42, 180, 0, 44, 27, 46, 61, 42, 180, 0, 36, 78, 45, 190, 54, 4, 3, 54, 5, 21, 5, 21, 4]
abbrev dktX1_cap_0 : List UInt8 := dkwX1_cap_0 ++ dktX1_cap_1
theorem dksX1_cap_0 : cX1_cap.data.toList.drop 0 = dktX1_cap_0 := by decide +kernel
theorem dksX1_cap_1 : cX1_cap.data.toList.drop 23 = dktX1_cap_1 := dk_seg dksX1_cap_0 23 rfl rfl
theorem dksX1_cap_2 : cX1_cap.data.toList.drop 47 = dktX1_cap_2 := dk_seg dksX1_cap_1 24 rfl rfl
theorem dksX1_cap_3 : cX1_cap.data.toList.drop 69 = dktX1_cap_3 := dk_seg dksX1_cap_2 22 rfl rfl
theorem dX1_cap_0 : decode cX1_cap 0 = .ok (.aload_n 0, 1) := dk_42 (dk_at dksX1_cap_0 0 rfl rfl)
theorem dX1_cap_1 : decode cX1_cap 1 = .ok (.getfield 44, 3) := dk_180 0 44 (dk_at dksX1_cap_0 1 rfl rfl)
theorem dX1_cap_4 : decode cX1_cap 4 = .ok (.iload_n 1, 1) := dk_27 (dk_at dksX1_cap_0 4 rfl rfl)
theorem dX1_cap_5 : decode cX1_cap 5 = .ok (.iaload, 1) := dk_46 (dk_at dksX1_cap_0 5 rfl rfl)
theorem dX1_cap_6 : decode cX1_cap 6 = .ok (.istore_n 2, 1) := dk_61 (dk_at dksX1_cap_0 6 rfl rfl)
theorem dX1_cap_7 : decode cX1_cap 7 = .ok (.aload_n 0, 1) := dk_42 (dk_at dksX1_cap_0 7 rfl rfl)
theorem dX1_cap_8 : decode cX1_cap 8 = .ok (.getfield 36, 3) := dk_180 0 36 (dk_at dksX1_cap_0 8 rfl rfl)
theorem dX1_cap_11 : decode cX1_cap 11 = .ok (.astore_n 3, 1) := dk_78 (dk_at dksX1_cap_0 11 rfl rfl)
theorem dX1_cap_12 : decode cX1_cap 12 = .ok (.aload_n 3, 1) := dk_45 (dk_at dksX1_cap_0 12 rfl rfl)
theorem dX1_cap_13 : decode cX1_cap 13 = .ok (.arraylength, 1) := dk_190 (dk_at dksX1_cap_0 13 rfl rfl)
theorem dX1_cap_14 : decode cX1_cap 14 = .ok (.istore 4, 2) := dk_54 4 (dk_at dksX1_cap_0 14 rfl rfl)
theorem dX1_cap_16 : decode cX1_cap 16 = .ok (.iconst 0, 1) := dk_3 (dk_at dksX1_cap_0 16 rfl rfl)
theorem dX1_cap_17 : decode cX1_cap 17 = .ok (.istore 5, 2) := dk_54 5 (dk_at dksX1_cap_0 17 rfl rfl)
theorem dX1_cap_19 : decode cX1_cap 19 = .ok (.iload 5, 2) := dk_21 5 (dk_at dksX1_cap_0 19 rfl rfl)
theorem dX1_cap_21 : decode cX1_cap 21 = .ok (.iload 4, 2) := dk_21 4 (dk_at dksX1_cap_0 21 rfl rfl)
theorem dX1_cap_23 : decode cX1_cap 23 = .ok (.if_icmp .ge 65, 3) := dk_162 0 65 (dk_at dksX1_cap_1 0 rfl rfl)
theorem dX1_cap_26 : decode cX1_cap 26 = .ok (.aload_n 3, 1) := dk_45 (dk_at dksX1_cap_1 3 rfl rfl)
theorem dX1_cap_27 : decode cX1_cap 27 = .ok (.iload 5, 2) := dk_21 5 (dk_at dksX1_cap_1 4 rfl rfl)
theorem dX1_cap_29 : decode cX1_cap 29 = .ok (.aaload, 1) := dk_50 (dk_at dksX1_cap_1 6 rfl rfl)
theorem dX1_cap_30 : decode cX1_cap 30 = .ok (.astore 6, 2) := dk_58 6 (dk_at dksX1_cap_1 7 rfl rfl)
theorem dX1_cap_32 : decode cX1_cap 32 = .ok (.iconst 0, 1) := dk_3 (dk_at dksX1_cap_1 9 rfl rfl)
theorem dX1_cap_33 : decode cX1_cap 33 = .ok (.istore 7, 2) := dk_54 7 (dk_at dksX1_cap_1 10 rfl rfl)
theorem dX1_cap_35 : decode cX1_cap 35 = .ok (.iload 7, 2) := dk_21 7 (dk_at dksX1_cap_1 12 rfl rfl)
theorem dX1_cap_37 : decode cX1_cap 37 = .ok (.aload 6, 2) := dk_25 6 (dk_at dksX1_cap_1 14 rfl rfl)
theorem dX1_cap_39 : decode cX1_cap 39 = .ok (.getfield 95, 3) := dk_180 0 95 (dk_at dksX1_cap_1 16 rfl rfl)
theorem dX1_cap_42 : decode cX1_cap 42 = .ok (.if_icmp .ge 40, 3) := dk_162 0 40 (dk_at dksX1_cap_1 19 rfl rfl)
theorem dX1_cap_45 : decode cX1_cap 45 = .ok (.aload 6, 2) := dk_25 6 (dk_at dksX1_cap_1 22 rfl rfl)
theorem dX1_cap_47 : decode cX1_cap 47 = .ok (.getfield 98, 3) := dk_180 0 98 (dk_at dksX1_cap_2 0 rfl rfl)
theorem dX1_cap_50 : decode cX1_cap 50 = .ok (.iload 7, 2) := dk_21 7 (dk_at dksX1_cap_2 3 rfl rfl)
theorem dX1_cap_52 : decode cX1_cap 52 = .ok (.aaload, 1) := dk_50 (dk_at dksX1_cap_2 5 rfl rfl)
theorem dX1_cap_53 : decode cX1_cap 53 = .ok (.getfield 102, 3) := dk_180 0 102 (dk_at dksX1_cap_2 6 rfl rfl)
theorem dX1_cap_56 : decode cX1_cap 56 = .ok (.iload_n 1, 1) := dk_27 (dk_at dksX1_cap_2 9 rfl rfl)
theorem dX1_cap_57 : decode cX1_cap 57 = .ok (.if_icmp .ne 19, 3) := dk_160 0 19 (dk_at dksX1_cap_2 10 rfl rfl)
theorem dX1_cap_60 : decode cX1_cap 60 = .ok (.iload_n 2, 1) := dk_28 (dk_at dksX1_cap_2 13 rfl rfl)
theorem dX1_cap_61 : decode cX1_cap 61 = .ok (.aload 6, 2) := dk_25 6 (dk_at dksX1_cap_2 14 rfl rfl)
theorem dX1_cap_63 : decode cX1_cap 63 = .ok (.getfield 98, 3) := dk_180 0 98 (dk_at dksX1_cap_2 16 rfl rfl)
theorem dX1_cap_66 : decode cX1_cap 66 = .ok (.iload 7, 2) := dk_21 7 (dk_at dksX1_cap_2 19 rfl rfl)
theorem dX1_cap_68 : decode cX1_cap 68 = .ok (.aaload, 1) := dk_50 (dk_at dksX1_cap_2 21 rfl rfl)
theorem dX1_cap_69 : decode cX1_cap 69 = .ok (.invokevirtual 105, 3) := dk_182 0 105 (dk_at dksX1_cap_3 0 rfl rfl)
theorem dX1_cap_72 : decode cX1_cap 72 = .ok (.invokestatic 109, 3) := dk_184 0 109 (dk_at dksX1_cap_3 3 rfl rfl)
theorem dX1_cap_75 : decode cX1_cap 75 = .ok (.istore_n 2, 1) := dk_61 (dk_at dksX1_cap_3 6 rfl rfl)
theorem dX1_cap_76 : decode cX1_cap 76 = .ok (.iinc 7 1, 3) := dk_132 7 1 (dk_at dksX1_cap_3 7 rfl rfl)
theorem dX1_cap_79 : decode cX1_cap 79 = .ok (.goto (-44), 3) := dk_167 255 212 (dk_at dksX1_cap_3 10 rfl rfl)
theorem dX1_cap_82 : decode cX1_cap 82 = .ok (.iinc 5 1, 3) := dk_132 5 1 (dk_at dksX1_cap_3 13 rfl rfl)
theorem dX1_cap_85 : decode cX1_cap 85 = .ok (.goto (-66), 3) := dk_167 255 190 (dk_at dksX1_cap_3 16 rfl rfl)
theorem dX1_cap_88 : decode cX1_cap 88 = .ok (.iload_n 2, 1) := dk_28 (dk_at dksX1_cap_3 19 rfl rfl)
theorem dX1_cap_89 : decode cX1_cap 89 = .ok (.ireturn, 1) := dk_172 (dk_at dksX1_cap_3 20 rfl rfl)
def dkwX1_soldAll_1 : List UInt8 := [46, 54, 6, 28, 21, 6, 96, 61, 132, 5, 1, 167, 255, 235, 28, 172]
abbrev dktX1_soldAll_1 : List UInt8 := dkwX1_soldAll_1 ++ []
def dkwX1_soldAll_0 : List UInt8 := [3, 61, 43, 180, 0, 124, 78, 45, 190, 54, 4, 3, 54, 5, 21, 5, 21, 4, 162, 0, 20, 45, 21, 5]
abbrev dktX1_soldAll_0 : List UInt8 := dkwX1_soldAll_0 ++ dktX1_soldAll_1
theorem dksX1_soldAll_0 : cX1_soldAll.data.toList.drop 0 = dktX1_soldAll_0 := by decide +kernel
theorem dksX1_soldAll_1 : cX1_soldAll.data.toList.drop 24 = dktX1_soldAll_1 := dk_seg dksX1_soldAll_0 24 rfl rfl
theorem dX1_soldAll_0 : decode cX1_soldAll 0 = .ok (.iconst 0, 1) := dk_3 (dk_at dksX1_soldAll_0 0 rfl rfl)
theorem dX1_soldAll_1 : decode cX1_soldAll 1 = .ok (.istore_n 2, 1) := dk_61 (dk_at dksX1_soldAll_0 1 rfl rfl)
theorem dX1_soldAll_2 : decode cX1_soldAll 2 = .ok (.aload_n 1, 1) := dk_43 (dk_at dksX1_soldAll_0 2 rfl rfl)
theorem dX1_soldAll_3 : decode cX1_soldAll 3 = .ok (.getfield 124, 3) := dk_180 0 124 (dk_at dksX1_soldAll_0 3 rfl rfl)
theorem dX1_soldAll_6 : decode cX1_soldAll 6 = .ok (.astore_n 3, 1) := dk_78 (dk_at dksX1_soldAll_0 6 rfl rfl)
theorem dX1_soldAll_7 : decode cX1_soldAll 7 = .ok (.aload_n 3, 1) := dk_45 (dk_at dksX1_soldAll_0 7 rfl rfl)
theorem dX1_soldAll_8 : decode cX1_soldAll 8 = .ok (.arraylength, 1) := dk_190 (dk_at dksX1_soldAll_0 8 rfl rfl)
theorem dX1_soldAll_9 : decode cX1_soldAll 9 = .ok (.istore 4, 2) := dk_54 4 (dk_at dksX1_soldAll_0 9 rfl rfl)
theorem dX1_soldAll_11 : decode cX1_soldAll 11 = .ok (.iconst 0, 1) := dk_3 (dk_at dksX1_soldAll_0 11 rfl rfl)
theorem dX1_soldAll_12 : decode cX1_soldAll 12 = .ok (.istore 5, 2) := dk_54 5 (dk_at dksX1_soldAll_0 12 rfl rfl)
theorem dX1_soldAll_14 : decode cX1_soldAll 14 = .ok (.iload 5, 2) := dk_21 5 (dk_at dksX1_soldAll_0 14 rfl rfl)
theorem dX1_soldAll_16 : decode cX1_soldAll 16 = .ok (.iload 4, 2) := dk_21 4 (dk_at dksX1_soldAll_0 16 rfl rfl)
theorem dX1_soldAll_18 : decode cX1_soldAll 18 = .ok (.if_icmp .ge 20, 3) := dk_162 0 20 (dk_at dksX1_soldAll_0 18 rfl rfl)
theorem dX1_soldAll_21 : decode cX1_soldAll 21 = .ok (.aload_n 3, 1) := dk_45 (dk_at dksX1_soldAll_0 21 rfl rfl)
theorem dX1_soldAll_22 : decode cX1_soldAll 22 = .ok (.iload 5, 2) := dk_21 5 (dk_at dksX1_soldAll_0 22 rfl rfl)
theorem dX1_soldAll_24 : decode cX1_soldAll 24 = .ok (.iaload, 1) := dk_46 (dk_at dksX1_soldAll_1 0 rfl rfl)
theorem dX1_soldAll_25 : decode cX1_soldAll 25 = .ok (.istore 6, 2) := dk_54 6 (dk_at dksX1_soldAll_1 1 rfl rfl)
theorem dX1_soldAll_27 : decode cX1_soldAll 27 = .ok (.iload_n 2, 1) := dk_28 (dk_at dksX1_soldAll_1 3 rfl rfl)
theorem dX1_soldAll_28 : decode cX1_soldAll 28 = .ok (.iload 6, 2) := dk_21 6 (dk_at dksX1_soldAll_1 4 rfl rfl)
theorem dX1_soldAll_30 : decode cX1_soldAll 30 = .ok (.iadd, 1) := dk_96 (dk_at dksX1_soldAll_1 6 rfl rfl)
theorem dX1_soldAll_31 : decode cX1_soldAll 31 = .ok (.istore_n 2, 1) := dk_61 (dk_at dksX1_soldAll_1 7 rfl rfl)
theorem dX1_soldAll_32 : decode cX1_soldAll 32 = .ok (.iinc 5 1, 3) := dk_132 5 1 (dk_at dksX1_soldAll_1 8 rfl rfl)
theorem dX1_soldAll_35 : decode cX1_soldAll 35 = .ok (.goto (-21), 3) := dk_167 255 235 (dk_at dksX1_soldAll_1 11 rfl rfl)
theorem dX1_soldAll_38 : decode cX1_soldAll 38 = .ok (.iload_n 2, 1) := dk_28 (dk_at dksX1_soldAll_1 14 rfl rfl)
theorem dX1_soldAll_39 : decode cX1_soldAll 39 = .ok (.ireturn, 1) := dk_172 (dk_at dksX1_soldAll_1 15 rfl rfl)
def dkwX1_lives_9 : List UInt8 := [180, 0, 124, 21, 5, 46, 104, 100, 184, 0, 129, 79, 132, 5, 1, 167, 255, 204, 42, 43, 182, 0, 217, 172]
abbrev dktX1_lives_9 : List UInt8 := dkwX1_lives_9 ++ []
def dkwX1_lives_8 : List UInt8 := [50, 3, 4, 42, 180, 0, 11, 21, 5, 50, 3, 46, 42, 180, 0, 11, 21, 5, 50, 4, 46, 43]
abbrev dktX1_lives_8 : List UInt8 := dkwX1_lives_8 ++ dktX1_lives_9
def dkwX1_lives_7 : List UInt8 := [132, 5, 1, 167, 255, 226, 3, 54, 5, 21, 5, 42, 180, 0, 70, 162, 0, 49, 42, 180, 0, 11, 21, 5]
abbrev dktX1_lives_7 : List UInt8 := dkwX1_lives_7 ++ dktX1_lives_8
def dkwX1_lives_6 : List UInt8 := [180, 0, 74, 162, 0, 27, 43, 180, 0, 121, 21, 5, 184, 0, 139, 153, 0, 9, 42, 21, 5, 182, 0, 244]
abbrev dktX1_lives_6 : List UInt8 := dkwX1_lives_6 ++ dktX1_lives_7
def dkwX1_lives_5 : List UInt8 := [45, 182, 0, 240, 132, 6, 1, 167, 255, 216, 132, 5, 1, 167, 255, 198, 3, 54, 5, 21, 5, 42]
abbrev dktX1_lives_5 : List UInt8 := dkwX1_lives_5 ++ dktX1_lives_6
def dkwX1_lives_4 : List UInt8 := [42, 21, 5, 21, 6, 45, 21, 6, 46, 25, 4, 21, 5, 50, 21, 6, 46, 184, 0, 109, 44, 21, 6, 46]
abbrev dktX1_lives_4 : List UInt8 := dkwX1_lives_4 ++ dktX1_lives_5
def dkwX1_lives_3 : List UInt8 := [3, 54, 5, 21, 5, 42, 180, 0, 74, 162, 0, 55, 3, 54, 6, 21, 6, 42, 180, 0, 70, 162, 0, 37]
abbrev dktX1_lives_3 : List UInt8 := dkwX1_lives_3 ++ dktX1_lives_4
def dkwX1_lives_2 : List UInt8 := [180, 0, 74, 162, 0, 21, 25, 4, 21, 5, 42, 43, 21, 5, 182, 0, 237, 83, 132, 5, 1, 167, 255, 232]
abbrev dktX1_lives_2 : List UInt8 := dkwX1_lives_2 ++ dktX1_lives_3
def dkwX1_lives_1 : List UInt8 := [180, 0, 124, 182, 0, 67, 192, 0, 68, 78, 16, 6, 189, 0, 68, 58, 4, 3, 54, 5, 21, 5, 42]
abbrev dktX1_lives_1 : List UInt8 := dkwX1_lives_1 ++ dktX1_lives_2
def dkwX1_lives_0 : List UInt8 := [42, 182, 0, 195, 76, 42, 43, 182, 0, 143, 42, 180, 0, 60, 182, 0, 67, 192, 0, 68, 77, 43]
abbrev dktX1_lives_0 : List UInt8 := dkwX1_lives_0 ++ dktX1_lives_1
theorem dksX1_lives_0 : cX1_lives.data.toList.drop 0 = dktX1_lives_0 := by decide +kernel
theorem dksX1_lives_1 : cX1_lives.data.toList.drop 22 = dktX1_lives_1 := dk_seg dksX1_lives_0 22 rfl rfl
theorem dksX1_lives_2 : cX1_lives.data.toList.drop 45 = dktX1_lives_2 := dk_seg dksX1_lives_1 23 rfl rfl
theorem dksX1_lives_3 : cX1_lives.data.toList.drop 69 = dktX1_lives_3 := dk_seg dksX1_lives_2 24 rfl rfl
theorem dksX1_lives_4 : cX1_lives.data.toList.drop 93 = dktX1_lives_4 := dk_seg dksX1_lives_3 24 rfl rfl
theorem dksX1_lives_5 : cX1_lives.data.toList.drop 117 = dktX1_lives_5 := dk_seg dksX1_lives_4 24 rfl rfl
theorem dksX1_lives_6 : cX1_lives.data.toList.drop 139 = dktX1_lives_6 := dk_seg dksX1_lives_5 22 rfl rfl
theorem dksX1_lives_7 : cX1_lives.data.toList.drop 163 = dktX1_lives_7 := dk_seg dksX1_lives_6 24 rfl rfl
theorem dksX1_lives_8 : cX1_lives.data.toList.drop 187 = dktX1_lives_8 := dk_seg dksX1_lives_7 24 rfl rfl
theorem dksX1_lives_9 : cX1_lives.data.toList.drop 209 = dktX1_lives_9 := dk_seg dksX1_lives_8 22 rfl rfl
theorem dX1_lives_0 : decode cX1_lives 0 = .ok (.aload_n 0, 1) := dk_42 (dk_at dksX1_lives_0 0 rfl rfl)
theorem dX1_lives_1 : decode cX1_lives 1 = .ok (.invokevirtual 195, 3) := dk_182 0 195 (dk_at dksX1_lives_0 1 rfl rfl)
theorem dX1_lives_4 : decode cX1_lives 4 = .ok (.astore_n 1, 1) := dk_76 (dk_at dksX1_lives_0 4 rfl rfl)
theorem dX1_lives_5 : decode cX1_lives 5 = .ok (.aload_n 0, 1) := dk_42 (dk_at dksX1_lives_0 5 rfl rfl)
theorem dX1_lives_6 : decode cX1_lives 6 = .ok (.aload_n 1, 1) := dk_43 (dk_at dksX1_lives_0 6 rfl rfl)
theorem dX1_lives_7 : decode cX1_lives 7 = .ok (.invokevirtual 143, 3) := dk_182 0 143 (dk_at dksX1_lives_0 7 rfl rfl)
theorem dX1_lives_10 : decode cX1_lives 10 = .ok (.aload_n 0, 1) := dk_42 (dk_at dksX1_lives_0 10 rfl rfl)
theorem dX1_lives_11 : decode cX1_lives 11 = .ok (.getfield 60, 3) := dk_180 0 60 (dk_at dksX1_lives_0 11 rfl rfl)
theorem dX1_lives_14 : decode cX1_lives 14 = .ok (.invokevirtual 67, 3) := dk_182 0 67 (dk_at dksX1_lives_0 14 rfl rfl)
theorem dX1_lives_17 : decode cX1_lives 17 = .ok (.checkcast 68, 3) := dk_192 0 68 (dk_at dksX1_lives_0 17 rfl rfl)
theorem dX1_lives_20 : decode cX1_lives 20 = .ok (.astore_n 2, 1) := dk_77 (dk_at dksX1_lives_0 20 rfl rfl)
theorem dX1_lives_21 : decode cX1_lives 21 = .ok (.aload_n 1, 1) := dk_43 (dk_at dksX1_lives_0 21 rfl rfl)
theorem dX1_lives_22 : decode cX1_lives 22 = .ok (.getfield 124, 3) := dk_180 0 124 (dk_at dksX1_lives_1 0 rfl rfl)
theorem dX1_lives_25 : decode cX1_lives 25 = .ok (.invokevirtual 67, 3) := dk_182 0 67 (dk_at dksX1_lives_1 3 rfl rfl)
theorem dX1_lives_28 : decode cX1_lives 28 = .ok (.checkcast 68, 3) := dk_192 0 68 (dk_at dksX1_lives_1 6 rfl rfl)
theorem dX1_lives_31 : decode cX1_lives 31 = .ok (.astore_n 3, 1) := dk_78 (dk_at dksX1_lives_1 9 rfl rfl)
theorem dX1_lives_32 : decode cX1_lives 32 = .ok (.bipush 6, 2) := dk_16 6 (dk_at dksX1_lives_1 10 rfl rfl)
theorem dX1_lives_34 : decode cX1_lives 34 = .ok (.anewarray 68, 3) := dk_189 0 68 (dk_at dksX1_lives_1 12 rfl rfl)
theorem dX1_lives_37 : decode cX1_lives 37 = .ok (.astore 4, 2) := dk_58 4 (dk_at dksX1_lives_1 15 rfl rfl)
theorem dX1_lives_39 : decode cX1_lives 39 = .ok (.iconst 0, 1) := dk_3 (dk_at dksX1_lives_1 17 rfl rfl)
theorem dX1_lives_40 : decode cX1_lives 40 = .ok (.istore 5, 2) := dk_54 5 (dk_at dksX1_lives_1 18 rfl rfl)
theorem dX1_lives_42 : decode cX1_lives 42 = .ok (.iload 5, 2) := dk_21 5 (dk_at dksX1_lives_1 20 rfl rfl)
theorem dX1_lives_44 : decode cX1_lives 44 = .ok (.aload_n 0, 1) := dk_42 (dk_at dksX1_lives_1 22 rfl rfl)
theorem dX1_lives_45 : decode cX1_lives 45 = .ok (.getfield 74, 3) := dk_180 0 74 (dk_at dksX1_lives_2 0 rfl rfl)
theorem dX1_lives_48 : decode cX1_lives 48 = .ok (.if_icmp .ge 21, 3) := dk_162 0 21 (dk_at dksX1_lives_2 3 rfl rfl)
theorem dX1_lives_51 : decode cX1_lives 51 = .ok (.aload 4, 2) := dk_25 4 (dk_at dksX1_lives_2 6 rfl rfl)
theorem dX1_lives_53 : decode cX1_lives 53 = .ok (.iload 5, 2) := dk_21 5 (dk_at dksX1_lives_2 8 rfl rfl)
theorem dX1_lives_55 : decode cX1_lives 55 = .ok (.aload_n 0, 1) := dk_42 (dk_at dksX1_lives_2 10 rfl rfl)
theorem dX1_lives_56 : decode cX1_lives 56 = .ok (.aload_n 1, 1) := dk_43 (dk_at dksX1_lives_2 11 rfl rfl)
theorem dX1_lives_57 : decode cX1_lives 57 = .ok (.iload 5, 2) := dk_21 5 (dk_at dksX1_lives_2 12 rfl rfl)
theorem dX1_lives_59 : decode cX1_lives 59 = .ok (.invokevirtual 237, 3) := dk_182 0 237 (dk_at dksX1_lives_2 14 rfl rfl)
theorem dX1_lives_62 : decode cX1_lives 62 = .ok (.aastore, 1) := dk_83 (dk_at dksX1_lives_2 17 rfl rfl)
theorem dX1_lives_63 : decode cX1_lives 63 = .ok (.iinc 5 1, 3) := dk_132 5 1 (dk_at dksX1_lives_2 18 rfl rfl)
theorem dX1_lives_66 : decode cX1_lives 66 = .ok (.goto (-24), 3) := dk_167 255 232 (dk_at dksX1_lives_2 21 rfl rfl)
theorem dX1_lives_69 : decode cX1_lives 69 = .ok (.iconst 0, 1) := dk_3 (dk_at dksX1_lives_3 0 rfl rfl)
theorem dX1_lives_70 : decode cX1_lives 70 = .ok (.istore 5, 2) := dk_54 5 (dk_at dksX1_lives_3 1 rfl rfl)
theorem dX1_lives_72 : decode cX1_lives 72 = .ok (.iload 5, 2) := dk_21 5 (dk_at dksX1_lives_3 3 rfl rfl)
theorem dX1_lives_74 : decode cX1_lives 74 = .ok (.aload_n 0, 1) := dk_42 (dk_at dksX1_lives_3 5 rfl rfl)
theorem dX1_lives_75 : decode cX1_lives 75 = .ok (.getfield 74, 3) := dk_180 0 74 (dk_at dksX1_lives_3 6 rfl rfl)
theorem dX1_lives_78 : decode cX1_lives 78 = .ok (.if_icmp .ge 55, 3) := dk_162 0 55 (dk_at dksX1_lives_3 9 rfl rfl)
theorem dX1_lives_81 : decode cX1_lives 81 = .ok (.iconst 0, 1) := dk_3 (dk_at dksX1_lives_3 12 rfl rfl)
theorem dX1_lives_82 : decode cX1_lives 82 = .ok (.istore 6, 2) := dk_54 6 (dk_at dksX1_lives_3 13 rfl rfl)
theorem dX1_lives_84 : decode cX1_lives 84 = .ok (.iload 6, 2) := dk_21 6 (dk_at dksX1_lives_3 15 rfl rfl)
theorem dX1_lives_86 : decode cX1_lives 86 = .ok (.aload_n 0, 1) := dk_42 (dk_at dksX1_lives_3 17 rfl rfl)
theorem dX1_lives_87 : decode cX1_lives 87 = .ok (.getfield 70, 3) := dk_180 0 70 (dk_at dksX1_lives_3 18 rfl rfl)
theorem dX1_lives_90 : decode cX1_lives 90 = .ok (.if_icmp .ge 37, 3) := dk_162 0 37 (dk_at dksX1_lives_3 21 rfl rfl)
theorem dX1_lives_93 : decode cX1_lives 93 = .ok (.aload_n 0, 1) := dk_42 (dk_at dksX1_lives_4 0 rfl rfl)
theorem dX1_lives_94 : decode cX1_lives 94 = .ok (.iload 5, 2) := dk_21 5 (dk_at dksX1_lives_4 1 rfl rfl)
theorem dX1_lives_96 : decode cX1_lives 96 = .ok (.iload 6, 2) := dk_21 6 (dk_at dksX1_lives_4 3 rfl rfl)
theorem dX1_lives_98 : decode cX1_lives 98 = .ok (.aload_n 3, 1) := dk_45 (dk_at dksX1_lives_4 5 rfl rfl)
theorem dX1_lives_99 : decode cX1_lives 99 = .ok (.iload 6, 2) := dk_21 6 (dk_at dksX1_lives_4 6 rfl rfl)
theorem dX1_lives_101 : decode cX1_lives 101 = .ok (.iaload, 1) := dk_46 (dk_at dksX1_lives_4 8 rfl rfl)
theorem dX1_lives_102 : decode cX1_lives 102 = .ok (.aload 4, 2) := dk_25 4 (dk_at dksX1_lives_4 9 rfl rfl)
theorem dX1_lives_104 : decode cX1_lives 104 = .ok (.iload 5, 2) := dk_21 5 (dk_at dksX1_lives_4 11 rfl rfl)
theorem dX1_lives_106 : decode cX1_lives 106 = .ok (.aaload, 1) := dk_50 (dk_at dksX1_lives_4 13 rfl rfl)
theorem dX1_lives_107 : decode cX1_lives 107 = .ok (.iload 6, 2) := dk_21 6 (dk_at dksX1_lives_4 14 rfl rfl)
theorem dX1_lives_109 : decode cX1_lives 109 = .ok (.iaload, 1) := dk_46 (dk_at dksX1_lives_4 16 rfl rfl)
theorem dX1_lives_110 : decode cX1_lives 110 = .ok (.invokestatic 109, 3) := dk_184 0 109 (dk_at dksX1_lives_4 17 rfl rfl)
theorem dX1_lives_113 : decode cX1_lives 113 = .ok (.aload_n 2, 1) := dk_44 (dk_at dksX1_lives_4 20 rfl rfl)
theorem dX1_lives_114 : decode cX1_lives 114 = .ok (.iload 6, 2) := dk_21 6 (dk_at dksX1_lives_4 21 rfl rfl)
theorem dX1_lives_116 : decode cX1_lives 116 = .ok (.iaload, 1) := dk_46 (dk_at dksX1_lives_4 23 rfl rfl)
theorem dX1_lives_117 : decode cX1_lives 117 = .ok (.aload_n 3, 1) := dk_45 (dk_at dksX1_lives_5 0 rfl rfl)
theorem dX1_lives_118 : decode cX1_lives 118 = .ok (.invokevirtual 240, 3) := dk_182 0 240 (dk_at dksX1_lives_5 1 rfl rfl)
theorem dX1_lives_121 : decode cX1_lives 121 = .ok (.iinc 6 1, 3) := dk_132 6 1 (dk_at dksX1_lives_5 4 rfl rfl)
theorem dX1_lives_124 : decode cX1_lives 124 = .ok (.goto (-40), 3) := dk_167 255 216 (dk_at dksX1_lives_5 7 rfl rfl)
theorem dX1_lives_127 : decode cX1_lives 127 = .ok (.iinc 5 1, 3) := dk_132 5 1 (dk_at dksX1_lives_5 10 rfl rfl)
theorem dX1_lives_130 : decode cX1_lives 130 = .ok (.goto (-58), 3) := dk_167 255 198 (dk_at dksX1_lives_5 13 rfl rfl)
theorem dX1_lives_133 : decode cX1_lives 133 = .ok (.iconst 0, 1) := dk_3 (dk_at dksX1_lives_5 16 rfl rfl)
theorem dX1_lives_134 : decode cX1_lives 134 = .ok (.istore 5, 2) := dk_54 5 (dk_at dksX1_lives_5 17 rfl rfl)
theorem dX1_lives_136 : decode cX1_lives 136 = .ok (.iload 5, 2) := dk_21 5 (dk_at dksX1_lives_5 19 rfl rfl)
theorem dX1_lives_138 : decode cX1_lives 138 = .ok (.aload_n 0, 1) := dk_42 (dk_at dksX1_lives_5 21 rfl rfl)
theorem dX1_lives_139 : decode cX1_lives 139 = .ok (.getfield 74, 3) := dk_180 0 74 (dk_at dksX1_lives_6 0 rfl rfl)
theorem dX1_lives_142 : decode cX1_lives 142 = .ok (.if_icmp .ge 27, 3) := dk_162 0 27 (dk_at dksX1_lives_6 3 rfl rfl)
theorem dX1_lives_145 : decode cX1_lives 145 = .ok (.aload_n 1, 1) := dk_43 (dk_at dksX1_lives_6 6 rfl rfl)
theorem dX1_lives_146 : decode cX1_lives 146 = .ok (.getfield 121, 3) := dk_180 0 121 (dk_at dksX1_lives_6 7 rfl rfl)
theorem dX1_lives_149 : decode cX1_lives 149 = .ok (.iload 5, 2) := dk_21 5 (dk_at dksX1_lives_6 10 rfl rfl)
theorem dX1_lives_151 : decode cX1_lives 151 = .ok (.invokestatic 139, 3) := dk_184 0 139 (dk_at dksX1_lives_6 12 rfl rfl)
theorem dX1_lives_154 : decode cX1_lives 154 = .ok (.ifCond .eq 9, 3) := dk_153 0 9 (dk_at dksX1_lives_6 15 rfl rfl)
theorem dX1_lives_157 : decode cX1_lives 157 = .ok (.aload_n 0, 1) := dk_42 (dk_at dksX1_lives_6 18 rfl rfl)
theorem dX1_lives_158 : decode cX1_lives 158 = .ok (.iload 5, 2) := dk_21 5 (dk_at dksX1_lives_6 19 rfl rfl)
theorem dX1_lives_160 : decode cX1_lives 160 = .ok (.invokevirtual 244, 3) := dk_182 0 244 (dk_at dksX1_lives_6 21 rfl rfl)
theorem dX1_lives_163 : decode cX1_lives 163 = .ok (.iinc 5 1, 3) := dk_132 5 1 (dk_at dksX1_lives_7 0 rfl rfl)
theorem dX1_lives_166 : decode cX1_lives 166 = .ok (.goto (-30), 3) := dk_167 255 226 (dk_at dksX1_lives_7 3 rfl rfl)
theorem dX1_lives_169 : decode cX1_lives 169 = .ok (.iconst 0, 1) := dk_3 (dk_at dksX1_lives_7 6 rfl rfl)
theorem dX1_lives_170 : decode cX1_lives 170 = .ok (.istore 5, 2) := dk_54 5 (dk_at dksX1_lives_7 7 rfl rfl)
theorem dX1_lives_172 : decode cX1_lives 172 = .ok (.iload 5, 2) := dk_21 5 (dk_at dksX1_lives_7 9 rfl rfl)
theorem dX1_lives_174 : decode cX1_lives 174 = .ok (.aload_n 0, 1) := dk_42 (dk_at dksX1_lives_7 11 rfl rfl)
theorem dX1_lives_175 : decode cX1_lives 175 = .ok (.getfield 70, 3) := dk_180 0 70 (dk_at dksX1_lives_7 12 rfl rfl)
theorem dX1_lives_178 : decode cX1_lives 178 = .ok (.if_icmp .ge 49, 3) := dk_162 0 49 (dk_at dksX1_lives_7 15 rfl rfl)
theorem dX1_lives_181 : decode cX1_lives 181 = .ok (.aload_n 0, 1) := dk_42 (dk_at dksX1_lives_7 18 rfl rfl)
theorem dX1_lives_182 : decode cX1_lives 182 = .ok (.getfield 11, 3) := dk_180 0 11 (dk_at dksX1_lives_7 19 rfl rfl)
theorem dX1_lives_185 : decode cX1_lives 185 = .ok (.iload 5, 2) := dk_21 5 (dk_at dksX1_lives_7 22 rfl rfl)
theorem dX1_lives_187 : decode cX1_lives 187 = .ok (.aaload, 1) := dk_50 (dk_at dksX1_lives_8 0 rfl rfl)
theorem dX1_lives_188 : decode cX1_lives 188 = .ok (.iconst 0, 1) := dk_3 (dk_at dksX1_lives_8 1 rfl rfl)
theorem dX1_lives_189 : decode cX1_lives 189 = .ok (.iconst 1, 1) := dk_4 (dk_at dksX1_lives_8 2 rfl rfl)
theorem dX1_lives_190 : decode cX1_lives 190 = .ok (.aload_n 0, 1) := dk_42 (dk_at dksX1_lives_8 3 rfl rfl)
theorem dX1_lives_191 : decode cX1_lives 191 = .ok (.getfield 11, 3) := dk_180 0 11 (dk_at dksX1_lives_8 4 rfl rfl)
theorem dX1_lives_194 : decode cX1_lives 194 = .ok (.iload 5, 2) := dk_21 5 (dk_at dksX1_lives_8 7 rfl rfl)
theorem dX1_lives_196 : decode cX1_lives 196 = .ok (.aaload, 1) := dk_50 (dk_at dksX1_lives_8 9 rfl rfl)
theorem dX1_lives_197 : decode cX1_lives 197 = .ok (.iconst 0, 1) := dk_3 (dk_at dksX1_lives_8 10 rfl rfl)
theorem dX1_lives_198 : decode cX1_lives 198 = .ok (.iaload, 1) := dk_46 (dk_at dksX1_lives_8 11 rfl rfl)
theorem dX1_lives_199 : decode cX1_lives 199 = .ok (.aload_n 0, 1) := dk_42 (dk_at dksX1_lives_8 12 rfl rfl)
theorem dX1_lives_200 : decode cX1_lives 200 = .ok (.getfield 11, 3) := dk_180 0 11 (dk_at dksX1_lives_8 13 rfl rfl)
theorem dX1_lives_203 : decode cX1_lives 203 = .ok (.iload 5, 2) := dk_21 5 (dk_at dksX1_lives_8 16 rfl rfl)
theorem dX1_lives_205 : decode cX1_lives 205 = .ok (.aaload, 1) := dk_50 (dk_at dksX1_lives_8 18 rfl rfl)
theorem dX1_lives_206 : decode cX1_lives 206 = .ok (.iconst 1, 1) := dk_4 (dk_at dksX1_lives_8 19 rfl rfl)
theorem dX1_lives_207 : decode cX1_lives 207 = .ok (.iaload, 1) := dk_46 (dk_at dksX1_lives_8 20 rfl rfl)
theorem dX1_lives_208 : decode cX1_lives 208 = .ok (.aload_n 1, 1) := dk_43 (dk_at dksX1_lives_8 21 rfl rfl)
theorem dX1_lives_209 : decode cX1_lives 209 = .ok (.getfield 124, 3) := dk_180 0 124 (dk_at dksX1_lives_9 0 rfl rfl)
theorem dX1_lives_212 : decode cX1_lives 212 = .ok (.iload 5, 2) := dk_21 5 (dk_at dksX1_lives_9 3 rfl rfl)
theorem dX1_lives_214 : decode cX1_lives 214 = .ok (.iaload, 1) := dk_46 (dk_at dksX1_lives_9 5 rfl rfl)
theorem dX1_lives_215 : decode cX1_lives 215 = .ok (.imul, 1) := dk_104 (dk_at dksX1_lives_9 6 rfl rfl)
theorem dX1_lives_216 : decode cX1_lives 216 = .ok (.isub, 1) := dk_100 (dk_at dksX1_lives_9 7 rfl rfl)
theorem dX1_lives_217 : decode cX1_lives 217 = .ok (.invokestatic 129, 3) := dk_184 0 129 (dk_at dksX1_lives_9 8 rfl rfl)
theorem dX1_lives_220 : decode cX1_lives 220 = .ok (.iastore, 1) := dk_79 (dk_at dksX1_lives_9 11 rfl rfl)
theorem dX1_lives_221 : decode cX1_lives 221 = .ok (.iinc 5 1, 3) := dk_132 5 1 (dk_at dksX1_lives_9 12 rfl rfl)
theorem dX1_lives_224 : decode cX1_lives 224 = .ok (.goto (-52), 3) := dk_167 255 204 (dk_at dksX1_lives_9 15 rfl rfl)
theorem dX1_lives_227 : decode cX1_lives 227 = .ok (.aload_n 0, 1) := dk_42 (dk_at dksX1_lives_9 18 rfl rfl)
theorem dX1_lives_228 : decode cX1_lives 228 = .ok (.aload_n 1, 1) := dk_43 (dk_at dksX1_lives_9 19 rfl rfl)
theorem dX1_lives_229 : decode cX1_lives 229 = .ok (.invokevirtual 217, 3) := dk_182 0 217 (dk_at dksX1_lives_9 20 rfl rfl)
theorem dX1_lives_232 : decode cX1_lives 232 = .ok (.ireturn, 1) := dk_172 (dk_at dksX1_lives_9 23 rfl rfl)
def dkwX1_sells_2_0 : List UInt8 := [7, 188, 10, 78, 42, 28, 42, 43, 28, 182, 0, 158, 45, 182, 0, 160, 45, 176]
abbrev dktX1_sells_2_0 : List UInt8 := dkwX1_sells_2_0 ++ []
theorem dksX1_sells_2_0 : cX1_sells_2.data.toList.drop 0 = dktX1_sells_2_0 := by decide +kernel
theorem dX1_sells_2_0 : decode cX1_sells_2 0 = .ok (.iconst 4, 1) := dk_7 (dk_at dksX1_sells_2_0 0 rfl rfl)
theorem dX1_sells_2_1 : decode cX1_sells_2 1 = .ok (.newarray .int, 2) := dk_188_10 (dk_at dksX1_sells_2_0 1 rfl rfl)
theorem dX1_sells_2_3 : decode cX1_sells_2 3 = .ok (.astore_n 3, 1) := dk_78 (dk_at dksX1_sells_2_0 3 rfl rfl)
theorem dX1_sells_2_4 : decode cX1_sells_2 4 = .ok (.aload_n 0, 1) := dk_42 (dk_at dksX1_sells_2_0 4 rfl rfl)
theorem dX1_sells_2_5 : decode cX1_sells_2 5 = .ok (.iload_n 2, 1) := dk_28 (dk_at dksX1_sells_2_0 5 rfl rfl)
theorem dX1_sells_2_6 : decode cX1_sells_2 6 = .ok (.aload_n 0, 1) := dk_42 (dk_at dksX1_sells_2_0 6 rfl rfl)
theorem dX1_sells_2_7 : decode cX1_sells_2 7 = .ok (.aload_n 1, 1) := dk_43 (dk_at dksX1_sells_2_0 7 rfl rfl)
theorem dX1_sells_2_8 : decode cX1_sells_2 8 = .ok (.iload_n 2, 1) := dk_28 (dk_at dksX1_sells_2_0 8 rfl rfl)
theorem dX1_sells_2_9 : decode cX1_sells_2 9 = .ok (.invokevirtual 158, 3) := dk_182 0 158 (dk_at dksX1_sells_2_0 9 rfl rfl)
theorem dX1_sells_2_12 : decode cX1_sells_2 12 = .ok (.aload_n 3, 1) := dk_45 (dk_at dksX1_sells_2_0 12 rfl rfl)
theorem dX1_sells_2_13 : decode cX1_sells_2 13 = .ok (.invokevirtual 160, 3) := dk_182 0 160 (dk_at dksX1_sells_2_0 13 rfl rfl)
theorem dX1_sells_2_16 : decode cX1_sells_2 16 = .ok (.aload_n 3, 1) := dk_45 (dk_at dksX1_sells_2_0 16 rfl rfl)
theorem dX1_sells_2_17 : decode cX1_sells_2 17 = .ok (.areturn, 1) := dk_176 (dk_at dksX1_sells_2_0 17 rfl rfl)
def dkwX1_mustSell_2_0 : List UInt8 := [42, 28, 42, 43, 28, 182, 0, 153, 182, 0, 155, 172]
abbrev dktX1_mustSell_2_0 : List UInt8 := dkwX1_mustSell_2_0 ++ []
theorem dksX1_mustSell_2_0 : cX1_mustSell_2.data.toList.drop 0 = dktX1_mustSell_2_0 := by decide +kernel
theorem dX1_mustSell_2_0 : decode cX1_mustSell_2 0 = .ok (.aload_n 0, 1) := dk_42 (dk_at dksX1_mustSell_2_0 0 rfl rfl)
theorem dX1_mustSell_2_1 : decode cX1_mustSell_2 1 = .ok (.iload_n 2, 1) := dk_28 (dk_at dksX1_mustSell_2_0 1 rfl rfl)
theorem dX1_mustSell_2_2 : decode cX1_mustSell_2 2 = .ok (.aload_n 0, 1) := dk_42 (dk_at dksX1_mustSell_2_0 2 rfl rfl)
theorem dX1_mustSell_2_3 : decode cX1_mustSell_2 3 = .ok (.aload_n 1, 1) := dk_43 (dk_at dksX1_mustSell_2_0 3 rfl rfl)
theorem dX1_mustSell_2_4 : decode cX1_mustSell_2 4 = .ok (.iload_n 2, 1) := dk_28 (dk_at dksX1_mustSell_2_0 4 rfl rfl)
theorem dX1_mustSell_2_5 : decode cX1_mustSell_2 5 = .ok (.invokevirtual 153, 3) := dk_182 0 153 (dk_at dksX1_mustSell_2_0 5 rfl rfl)
theorem dX1_mustSell_2_8 : decode cX1_mustSell_2 8 = .ok (.invokevirtual 155, 3) := dk_182 0 155 (dk_at dksX1_mustSell_2_0 8 rfl rfl)
theorem dX1_mustSell_2_11 : decode cX1_mustSell_2 11 = .ok (.ireturn, 1) := dk_172 (dk_at dksX1_mustSell_2_0 11 rfl rfl)
def dkwX1_worth_2_0 : List UInt8 := [42, 43, 182, 0, 143, 42, 28, 43, 180, 0, 121, 182, 0, 147, 172]
abbrev dktX1_worth_2_0 : List UInt8 := dkwX1_worth_2_0 ++ []
theorem dksX1_worth_2_0 : cX1_worth_2.data.toList.drop 0 = dktX1_worth_2_0 := by decide +kernel
theorem dX1_worth_2_0 : decode cX1_worth_2 0 = .ok (.aload_n 0, 1) := dk_42 (dk_at dksX1_worth_2_0 0 rfl rfl)
theorem dX1_worth_2_1 : decode cX1_worth_2 1 = .ok (.aload_n 1, 1) := dk_43 (dk_at dksX1_worth_2_0 1 rfl rfl)
theorem dX1_worth_2_2 : decode cX1_worth_2 2 = .ok (.invokevirtual 143, 3) := dk_182 0 143 (dk_at dksX1_worth_2_0 2 rfl rfl)
theorem dX1_worth_2_5 : decode cX1_worth_2 5 = .ok (.aload_n 0, 1) := dk_42 (dk_at dksX1_worth_2_0 5 rfl rfl)
theorem dX1_worth_2_6 : decode cX1_worth_2 6 = .ok (.iload_n 2, 1) := dk_28 (dk_at dksX1_worth_2_0 6 rfl rfl)
theorem dX1_worth_2_7 : decode cX1_worth_2 7 = .ok (.aload_n 1, 1) := dk_43 (dk_at dksX1_worth_2_0 7 rfl rfl)
theorem dX1_worth_2_8 : decode cX1_worth_2 8 = .ok (.getfield 121, 3) := dk_180 0 121 (dk_at dksX1_worth_2_0 8 rfl rfl)
theorem dX1_worth_2_11 : decode cX1_worth_2 11 = .ok (.invokevirtual 147, 3) := dk_182 0 147 (dk_at dksX1_worth_2_0 11 rfl rfl)
theorem dX1_worth_2_14 : decode cX1_worth_2 14 = .ok (.ireturn, 1) := dk_172 (dk_at dksX1_worth_2_0 14 rfl rfl)
def dkwX1_pays_1 : List UInt8 := [27, 50, 3, 17, 39, 15, 42, 180, 0, 16, 27, 50, 3, 46, 29, 21, 4, 104, 96, 184, 0, 109, 79, 177]
abbrev dktX1_pays_1 : List UInt8 := dkwX1_pays_1 ++ []
def dkwX1_pays_0 : List UInt8 := [25, 5, 28, 92, 46, 29, 100, 79, 42, 180, 0, 19, 27, 50, 28, 92, 46, 29, 100, 79, 42, 180, 0, 16]
abbrev dktX1_pays_0 : List UInt8 := dkwX1_pays_0 ++ dktX1_pays_1
theorem dksX1_pays_0 : cX1_pays.data.toList.drop 0 = dktX1_pays_0 := by decide +kernel
theorem dksX1_pays_1 : cX1_pays.data.toList.drop 24 = dktX1_pays_1 := dk_seg dksX1_pays_0 24 rfl rfl
theorem dX1_pays_0 : decode cX1_pays 0 = .ok (.aload 5, 2) := dk_25 5 (dk_at dksX1_pays_0 0 rfl rfl)
theorem dX1_pays_2 : decode cX1_pays 2 = .ok (.iload_n 2, 1) := dk_28 (dk_at dksX1_pays_0 2 rfl rfl)
theorem dX1_pays_3 : decode cX1_pays 3 = .ok (.dup2, 1) := dk_92 (dk_at dksX1_pays_0 3 rfl rfl)
theorem dX1_pays_4 : decode cX1_pays 4 = .ok (.iaload, 1) := dk_46 (dk_at dksX1_pays_0 4 rfl rfl)
theorem dX1_pays_5 : decode cX1_pays 5 = .ok (.iload_n 3, 1) := dk_29 (dk_at dksX1_pays_0 5 rfl rfl)
theorem dX1_pays_6 : decode cX1_pays 6 = .ok (.isub, 1) := dk_100 (dk_at dksX1_pays_0 6 rfl rfl)
theorem dX1_pays_7 : decode cX1_pays 7 = .ok (.iastore, 1) := dk_79 (dk_at dksX1_pays_0 7 rfl rfl)
theorem dX1_pays_8 : decode cX1_pays 8 = .ok (.aload_n 0, 1) := dk_42 (dk_at dksX1_pays_0 8 rfl rfl)
theorem dX1_pays_9 : decode cX1_pays 9 = .ok (.getfield 19, 3) := dk_180 0 19 (dk_at dksX1_pays_0 9 rfl rfl)
theorem dX1_pays_12 : decode cX1_pays 12 = .ok (.iload_n 1, 1) := dk_27 (dk_at dksX1_pays_0 12 rfl rfl)
theorem dX1_pays_13 : decode cX1_pays 13 = .ok (.aaload, 1) := dk_50 (dk_at dksX1_pays_0 13 rfl rfl)
theorem dX1_pays_14 : decode cX1_pays 14 = .ok (.iload_n 2, 1) := dk_28 (dk_at dksX1_pays_0 14 rfl rfl)
theorem dX1_pays_15 : decode cX1_pays 15 = .ok (.dup2, 1) := dk_92 (dk_at dksX1_pays_0 15 rfl rfl)
theorem dX1_pays_16 : decode cX1_pays 16 = .ok (.iaload, 1) := dk_46 (dk_at dksX1_pays_0 16 rfl rfl)
theorem dX1_pays_17 : decode cX1_pays 17 = .ok (.iload_n 3, 1) := dk_29 (dk_at dksX1_pays_0 17 rfl rfl)
theorem dX1_pays_18 : decode cX1_pays 18 = .ok (.isub, 1) := dk_100 (dk_at dksX1_pays_0 18 rfl rfl)
theorem dX1_pays_19 : decode cX1_pays 19 = .ok (.iastore, 1) := dk_79 (dk_at dksX1_pays_0 19 rfl rfl)
theorem dX1_pays_20 : decode cX1_pays 20 = .ok (.aload_n 0, 1) := dk_42 (dk_at dksX1_pays_0 20 rfl rfl)
theorem dX1_pays_21 : decode cX1_pays 21 = .ok (.getfield 16, 3) := dk_180 0 16 (dk_at dksX1_pays_0 21 rfl rfl)
theorem dX1_pays_24 : decode cX1_pays 24 = .ok (.iload_n 1, 1) := dk_27 (dk_at dksX1_pays_1 0 rfl rfl)
theorem dX1_pays_25 : decode cX1_pays 25 = .ok (.aaload, 1) := dk_50 (dk_at dksX1_pays_1 1 rfl rfl)
theorem dX1_pays_26 : decode cX1_pays 26 = .ok (.iconst 0, 1) := dk_3 (dk_at dksX1_pays_1 2 rfl rfl)
theorem dX1_pays_27 : decode cX1_pays 27 = .ok (.sipush 9999, 3) := dk_17 39 15 (dk_at dksX1_pays_1 3 rfl rfl)
theorem dX1_pays_30 : decode cX1_pays 30 = .ok (.aload_n 0, 1) := dk_42 (dk_at dksX1_pays_1 6 rfl rfl)
theorem dX1_pays_31 : decode cX1_pays 31 = .ok (.getfield 16, 3) := dk_180 0 16 (dk_at dksX1_pays_1 7 rfl rfl)
theorem dX1_pays_34 : decode cX1_pays 34 = .ok (.iload_n 1, 1) := dk_27 (dk_at dksX1_pays_1 10 rfl rfl)
theorem dX1_pays_35 : decode cX1_pays 35 = .ok (.aaload, 1) := dk_50 (dk_at dksX1_pays_1 11 rfl rfl)
theorem dX1_pays_36 : decode cX1_pays 36 = .ok (.iconst 0, 1) := dk_3 (dk_at dksX1_pays_1 12 rfl rfl)
theorem dX1_pays_37 : decode cX1_pays 37 = .ok (.iaload, 1) := dk_46 (dk_at dksX1_pays_1 13 rfl rfl)
theorem dX1_pays_38 : decode cX1_pays 38 = .ok (.iload_n 3, 1) := dk_29 (dk_at dksX1_pays_1 14 rfl rfl)
theorem dX1_pays_39 : decode cX1_pays 39 = .ok (.iload 4, 2) := dk_21 4 (dk_at dksX1_pays_1 15 rfl rfl)
theorem dX1_pays_41 : decode cX1_pays 41 = .ok (.imul, 1) := dk_104 (dk_at dksX1_pays_1 17 rfl rfl)
theorem dX1_pays_42 : decode cX1_pays 42 = .ok (.iadd, 1) := dk_96 (dk_at dksX1_pays_1 18 rfl rfl)
theorem dX1_pays_43 : decode cX1_pays 43 = .ok (.invokestatic 109, 3) := dk_184 0 109 (dk_at dksX1_pays_1 19 rfl rfl)
theorem dX1_pays_46 : decode cX1_pays 46 = .ok (.iastore, 1) := dk_79 (dk_at dksX1_pays_1 22 rfl rfl)
theorem dX1_pays_47 : decode cX1_pays 47 = .ok (.return_, 1) := dk_177 (dk_at dksX1_pays_1 23 rfl rfl)
def dkwX1_closes_3 : List UInt8 := [79, 42, 180, 0, 22, 28, 50, 27, 3, 79, 132, 2, 1, 167, 255, 227, 177]
abbrev dktX1_closes_3 : List UInt8 := dkwX1_closes_3 ++ []
def dkwX1_closes_2 : List UInt8 := [132, 2, 1, 167, 255, 236, 3, 61, 28, 42, 180, 0, 74, 162, 0, 27, 42, 180, 0, 22, 27, 50, 28, 3]
abbrev dktX1_closes_2 : List UInt8 := dkwX1_closes_2 ++ dktX1_closes_3
def dkwX1_closes_1 : List UInt8 := [5, 3, 79, 3, 61, 28, 42, 180, 0, 70, 162, 0, 18, 42, 180, 0, 19, 27, 50, 28, 3, 79]
abbrev dktX1_closes_1 : List UInt8 := dkwX1_closes_1 ++ dktX1_closes_2
def dkwX1_closes_0 : List UInt8 := [42, 180, 0, 16, 27, 50, 3, 3, 79, 42, 180, 0, 16, 27, 50, 4, 3, 79, 42, 180, 0, 16, 27, 50]
abbrev dktX1_closes_0 : List UInt8 := dkwX1_closes_0 ++ dktX1_closes_1
theorem dksX1_closes_0 : cX1_closes.data.toList.drop 0 = dktX1_closes_0 := by decide +kernel
theorem dksX1_closes_1 : cX1_closes.data.toList.drop 24 = dktX1_closes_1 := dk_seg dksX1_closes_0 24 rfl rfl
theorem dksX1_closes_2 : cX1_closes.data.toList.drop 46 = dktX1_closes_2 := dk_seg dksX1_closes_1 22 rfl rfl
theorem dksX1_closes_3 : cX1_closes.data.toList.drop 70 = dktX1_closes_3 := dk_seg dksX1_closes_2 24 rfl rfl
theorem dX1_closes_0 : decode cX1_closes 0 = .ok (.aload_n 0, 1) := dk_42 (dk_at dksX1_closes_0 0 rfl rfl)
theorem dX1_closes_1 : decode cX1_closes 1 = .ok (.getfield 16, 3) := dk_180 0 16 (dk_at dksX1_closes_0 1 rfl rfl)
theorem dX1_closes_4 : decode cX1_closes 4 = .ok (.iload_n 1, 1) := dk_27 (dk_at dksX1_closes_0 4 rfl rfl)
theorem dX1_closes_5 : decode cX1_closes 5 = .ok (.aaload, 1) := dk_50 (dk_at dksX1_closes_0 5 rfl rfl)
theorem dX1_closes_6 : decode cX1_closes 6 = .ok (.iconst 0, 1) := dk_3 (dk_at dksX1_closes_0 6 rfl rfl)
theorem dX1_closes_7 : decode cX1_closes 7 = .ok (.iconst 0, 1) := dk_3 (dk_at dksX1_closes_0 7 rfl rfl)
theorem dX1_closes_8 : decode cX1_closes 8 = .ok (.iastore, 1) := dk_79 (dk_at dksX1_closes_0 8 rfl rfl)
theorem dX1_closes_9 : decode cX1_closes 9 = .ok (.aload_n 0, 1) := dk_42 (dk_at dksX1_closes_0 9 rfl rfl)
theorem dX1_closes_10 : decode cX1_closes 10 = .ok (.getfield 16, 3) := dk_180 0 16 (dk_at dksX1_closes_0 10 rfl rfl)
theorem dX1_closes_13 : decode cX1_closes 13 = .ok (.iload_n 1, 1) := dk_27 (dk_at dksX1_closes_0 13 rfl rfl)
theorem dX1_closes_14 : decode cX1_closes 14 = .ok (.aaload, 1) := dk_50 (dk_at dksX1_closes_0 14 rfl rfl)
theorem dX1_closes_15 : decode cX1_closes 15 = .ok (.iconst 1, 1) := dk_4 (dk_at dksX1_closes_0 15 rfl rfl)
theorem dX1_closes_16 : decode cX1_closes 16 = .ok (.iconst 0, 1) := dk_3 (dk_at dksX1_closes_0 16 rfl rfl)
theorem dX1_closes_17 : decode cX1_closes 17 = .ok (.iastore, 1) := dk_79 (dk_at dksX1_closes_0 17 rfl rfl)
theorem dX1_closes_18 : decode cX1_closes 18 = .ok (.aload_n 0, 1) := dk_42 (dk_at dksX1_closes_0 18 rfl rfl)
theorem dX1_closes_19 : decode cX1_closes 19 = .ok (.getfield 16, 3) := dk_180 0 16 (dk_at dksX1_closes_0 19 rfl rfl)
theorem dX1_closes_22 : decode cX1_closes 22 = .ok (.iload_n 1, 1) := dk_27 (dk_at dksX1_closes_0 22 rfl rfl)
theorem dX1_closes_23 : decode cX1_closes 23 = .ok (.aaload, 1) := dk_50 (dk_at dksX1_closes_0 23 rfl rfl)
theorem dX1_closes_24 : decode cX1_closes 24 = .ok (.iconst 2, 1) := dk_5 (dk_at dksX1_closes_1 0 rfl rfl)
theorem dX1_closes_25 : decode cX1_closes 25 = .ok (.iconst 0, 1) := dk_3 (dk_at dksX1_closes_1 1 rfl rfl)
theorem dX1_closes_26 : decode cX1_closes 26 = .ok (.iastore, 1) := dk_79 (dk_at dksX1_closes_1 2 rfl rfl)
theorem dX1_closes_27 : decode cX1_closes 27 = .ok (.iconst 0, 1) := dk_3 (dk_at dksX1_closes_1 3 rfl rfl)
theorem dX1_closes_28 : decode cX1_closes 28 = .ok (.istore_n 2, 1) := dk_61 (dk_at dksX1_closes_1 4 rfl rfl)
theorem dX1_closes_29 : decode cX1_closes 29 = .ok (.iload_n 2, 1) := dk_28 (dk_at dksX1_closes_1 5 rfl rfl)
theorem dX1_closes_30 : decode cX1_closes 30 = .ok (.aload_n 0, 1) := dk_42 (dk_at dksX1_closes_1 6 rfl rfl)
theorem dX1_closes_31 : decode cX1_closes 31 = .ok (.getfield 70, 3) := dk_180 0 70 (dk_at dksX1_closes_1 7 rfl rfl)
theorem dX1_closes_34 : decode cX1_closes 34 = .ok (.if_icmp .ge 18, 3) := dk_162 0 18 (dk_at dksX1_closes_1 10 rfl rfl)
theorem dX1_closes_37 : decode cX1_closes 37 = .ok (.aload_n 0, 1) := dk_42 (dk_at dksX1_closes_1 13 rfl rfl)
theorem dX1_closes_38 : decode cX1_closes 38 = .ok (.getfield 19, 3) := dk_180 0 19 (dk_at dksX1_closes_1 14 rfl rfl)
theorem dX1_closes_41 : decode cX1_closes 41 = .ok (.iload_n 1, 1) := dk_27 (dk_at dksX1_closes_1 17 rfl rfl)
theorem dX1_closes_42 : decode cX1_closes 42 = .ok (.aaload, 1) := dk_50 (dk_at dksX1_closes_1 18 rfl rfl)
theorem dX1_closes_43 : decode cX1_closes 43 = .ok (.iload_n 2, 1) := dk_28 (dk_at dksX1_closes_1 19 rfl rfl)
theorem dX1_closes_44 : decode cX1_closes 44 = .ok (.iconst 0, 1) := dk_3 (dk_at dksX1_closes_1 20 rfl rfl)
theorem dX1_closes_45 : decode cX1_closes 45 = .ok (.iastore, 1) := dk_79 (dk_at dksX1_closes_1 21 rfl rfl)
theorem dX1_closes_46 : decode cX1_closes 46 = .ok (.iinc 2 1, 3) := dk_132 2 1 (dk_at dksX1_closes_2 0 rfl rfl)
theorem dX1_closes_49 : decode cX1_closes 49 = .ok (.goto (-20), 3) := dk_167 255 236 (dk_at dksX1_closes_2 3 rfl rfl)
theorem dX1_closes_52 : decode cX1_closes 52 = .ok (.iconst 0, 1) := dk_3 (dk_at dksX1_closes_2 6 rfl rfl)
theorem dX1_closes_53 : decode cX1_closes 53 = .ok (.istore_n 2, 1) := dk_61 (dk_at dksX1_closes_2 7 rfl rfl)
theorem dX1_closes_54 : decode cX1_closes 54 = .ok (.iload_n 2, 1) := dk_28 (dk_at dksX1_closes_2 8 rfl rfl)
theorem dX1_closes_55 : decode cX1_closes 55 = .ok (.aload_n 0, 1) := dk_42 (dk_at dksX1_closes_2 9 rfl rfl)
theorem dX1_closes_56 : decode cX1_closes 56 = .ok (.getfield 74, 3) := dk_180 0 74 (dk_at dksX1_closes_2 10 rfl rfl)
theorem dX1_closes_59 : decode cX1_closes 59 = .ok (.if_icmp .ge 27, 3) := dk_162 0 27 (dk_at dksX1_closes_2 13 rfl rfl)
theorem dX1_closes_62 : decode cX1_closes 62 = .ok (.aload_n 0, 1) := dk_42 (dk_at dksX1_closes_2 16 rfl rfl)
theorem dX1_closes_63 : decode cX1_closes 63 = .ok (.getfield 22, 3) := dk_180 0 22 (dk_at dksX1_closes_2 17 rfl rfl)
theorem dX1_closes_66 : decode cX1_closes 66 = .ok (.iload_n 1, 1) := dk_27 (dk_at dksX1_closes_2 20 rfl rfl)
theorem dX1_closes_67 : decode cX1_closes 67 = .ok (.aaload, 1) := dk_50 (dk_at dksX1_closes_2 21 rfl rfl)
theorem dX1_closes_68 : decode cX1_closes 68 = .ok (.iload_n 2, 1) := dk_28 (dk_at dksX1_closes_2 22 rfl rfl)
theorem dX1_closes_69 : decode cX1_closes 69 = .ok (.iconst 0, 1) := dk_3 (dk_at dksX1_closes_2 23 rfl rfl)
theorem dX1_closes_70 : decode cX1_closes 70 = .ok (.iastore, 1) := dk_79 (dk_at dksX1_closes_3 0 rfl rfl)
theorem dX1_closes_71 : decode cX1_closes 71 = .ok (.aload_n 0, 1) := dk_42 (dk_at dksX1_closes_3 1 rfl rfl)
theorem dX1_closes_72 : decode cX1_closes 72 = .ok (.getfield 22, 3) := dk_180 0 22 (dk_at dksX1_closes_3 2 rfl rfl)
theorem dX1_closes_75 : decode cX1_closes 75 = .ok (.iload_n 2, 1) := dk_28 (dk_at dksX1_closes_3 5 rfl rfl)
theorem dX1_closes_76 : decode cX1_closes 76 = .ok (.aaload, 1) := dk_50 (dk_at dksX1_closes_3 6 rfl rfl)
theorem dX1_closes_77 : decode cX1_closes 77 = .ok (.iload_n 1, 1) := dk_27 (dk_at dksX1_closes_3 7 rfl rfl)
theorem dX1_closes_78 : decode cX1_closes 78 = .ok (.iconst 0, 1) := dk_3 (dk_at dksX1_closes_3 8 rfl rfl)
theorem dX1_closes_79 : decode cX1_closes 79 = .ok (.iastore, 1) := dk_79 (dk_at dksX1_closes_3 9 rfl rfl)
theorem dX1_closes_80 : decode cX1_closes 80 = .ok (.iinc 2 1, 3) := dk_132 2 1 (dk_at dksX1_closes_3 10 rfl rfl)
theorem dX1_closes_83 : decode cX1_closes 83 = .ok (.goto (-29), 3) := dk_167 255 227 (dk_at dksX1_closes_3 13 rfl rfl)
theorem dX1_closes_86 : decode cX1_closes 86 = .ok (.return_, 1) := dk_177 (dk_at dksX1_closes_3 16 rfl rfl)
def dkwX1_held_1 : List UInt8 := [50, 58, 6, 28, 25, 6, 27, 46, 96, 61, 132, 5, 1, 167, 255, 233, 28, 172]
abbrev dktX1_held_1 : List UInt8 := dkwX1_held_1 ++ []
def dkwX1_held_0 : List UInt8 := [3, 61, 42, 180, 0, 19, 78, 45, 190, 54, 4, 3, 54, 5, 21, 5, 21, 4, 162, 0, 22, 45, 21, 5]
abbrev dktX1_held_0 : List UInt8 := dkwX1_held_0 ++ dktX1_held_1
theorem dksX1_held_0 : cX1_held.data.toList.drop 0 = dktX1_held_0 := by decide +kernel
theorem dksX1_held_1 : cX1_held.data.toList.drop 24 = dktX1_held_1 := dk_seg dksX1_held_0 24 rfl rfl
theorem dX1_held_0 : decode cX1_held 0 = .ok (.iconst 0, 1) := dk_3 (dk_at dksX1_held_0 0 rfl rfl)
theorem dX1_held_1 : decode cX1_held 1 = .ok (.istore_n 2, 1) := dk_61 (dk_at dksX1_held_0 1 rfl rfl)
theorem dX1_held_2 : decode cX1_held 2 = .ok (.aload_n 0, 1) := dk_42 (dk_at dksX1_held_0 2 rfl rfl)
theorem dX1_held_3 : decode cX1_held 3 = .ok (.getfield 19, 3) := dk_180 0 19 (dk_at dksX1_held_0 3 rfl rfl)
theorem dX1_held_6 : decode cX1_held 6 = .ok (.astore_n 3, 1) := dk_78 (dk_at dksX1_held_0 6 rfl rfl)
theorem dX1_held_7 : decode cX1_held 7 = .ok (.aload_n 3, 1) := dk_45 (dk_at dksX1_held_0 7 rfl rfl)
theorem dX1_held_8 : decode cX1_held 8 = .ok (.arraylength, 1) := dk_190 (dk_at dksX1_held_0 8 rfl rfl)
theorem dX1_held_9 : decode cX1_held 9 = .ok (.istore 4, 2) := dk_54 4 (dk_at dksX1_held_0 9 rfl rfl)
theorem dX1_held_11 : decode cX1_held 11 = .ok (.iconst 0, 1) := dk_3 (dk_at dksX1_held_0 11 rfl rfl)
theorem dX1_held_12 : decode cX1_held 12 = .ok (.istore 5, 2) := dk_54 5 (dk_at dksX1_held_0 12 rfl rfl)
theorem dX1_held_14 : decode cX1_held 14 = .ok (.iload 5, 2) := dk_21 5 (dk_at dksX1_held_0 14 rfl rfl)
theorem dX1_held_16 : decode cX1_held 16 = .ok (.iload 4, 2) := dk_21 4 (dk_at dksX1_held_0 16 rfl rfl)
theorem dX1_held_18 : decode cX1_held 18 = .ok (.if_icmp .ge 22, 3) := dk_162 0 22 (dk_at dksX1_held_0 18 rfl rfl)
theorem dX1_held_21 : decode cX1_held 21 = .ok (.aload_n 3, 1) := dk_45 (dk_at dksX1_held_0 21 rfl rfl)
theorem dX1_held_22 : decode cX1_held 22 = .ok (.iload 5, 2) := dk_21 5 (dk_at dksX1_held_0 22 rfl rfl)
theorem dX1_held_24 : decode cX1_held 24 = .ok (.aaload, 1) := dk_50 (dk_at dksX1_held_1 0 rfl rfl)
theorem dX1_held_25 : decode cX1_held 25 = .ok (.astore 6, 2) := dk_58 6 (dk_at dksX1_held_1 1 rfl rfl)
theorem dX1_held_27 : decode cX1_held 27 = .ok (.iload_n 2, 1) := dk_28 (dk_at dksX1_held_1 3 rfl rfl)
theorem dX1_held_28 : decode cX1_held 28 = .ok (.aload 6, 2) := dk_25 6 (dk_at dksX1_held_1 4 rfl rfl)
theorem dX1_held_30 : decode cX1_held 30 = .ok (.iload_n 1, 1) := dk_27 (dk_at dksX1_held_1 6 rfl rfl)
theorem dX1_held_31 : decode cX1_held 31 = .ok (.iaload, 1) := dk_46 (dk_at dksX1_held_1 7 rfl rfl)
theorem dX1_held_32 : decode cX1_held 32 = .ok (.iadd, 1) := dk_96 (dk_at dksX1_held_1 8 rfl rfl)
theorem dX1_held_33 : decode cX1_held 33 = .ok (.istore_n 2, 1) := dk_61 (dk_at dksX1_held_1 9 rfl rfl)
theorem dX1_held_34 : decode cX1_held 34 = .ok (.iinc 5 1, 3) := dk_132 5 1 (dk_at dksX1_held_1 10 rfl rfl)
theorem dX1_held_37 : decode cX1_held 37 = .ok (.goto (-23), 3) := dk_167 255 233 (dk_at dksX1_held_1 13 rfl rfl)
theorem dX1_held_40 : decode cX1_held 40 = .ok (.iload_n 2, 1) := dk_28 (dk_at dksX1_held_1 16 rfl rfl)
theorem dX1_held_41 : decode cX1_held 41 = .ok (.ireturn, 1) := dk_172 (dk_at dksX1_held_1 17 rfl rfl)
def dkwX1_state_3 : List UInt8 := [182, 0, 198, 176]
abbrev dktX1_state_3 : List UInt8 := dkwX1_state_3 ++ []
def dkwX1_state_2 : List UInt8 := [42, 182, 0, 187, 176, 42, 182, 0, 195, 176, 42, 42, 182, 0, 198, 18, 190, 182, 0, 191, 176, 42]
abbrev dktX1_state_2 : List UInt8 := dkwX1_state_2 ++ dktX1_state_3
def dkwX1_state_1 : List UInt8 := [170, 0, 0, 0, 0, 0, 48, 0, 0, 0, 0, 0, 0, 0, 2, 0, 0, 0, 27, 0, 0, 0, 32, 0, 0, 0, 37]
abbrev dktX1_state_1 : List UInt8 := dkwX1_state_1 ++ dktX1_state_2
def dkwX1_state_0 : List UInt8 := [27]
abbrev dktX1_state_0 : List UInt8 := dkwX1_state_0 ++ dktX1_state_1
theorem dksX1_state_0 : cX1_state.data.toList.drop 0 = dktX1_state_0 := by decide +kernel
theorem dksX1_state_1 : cX1_state.data.toList.drop 1 = dktX1_state_1 := dk_seg dksX1_state_0 1 rfl rfl
theorem dksX1_state_2 : cX1_state.data.toList.drop 28 = dktX1_state_2 := dk_seg dksX1_state_1 27 rfl rfl
theorem dksX1_state_3 : cX1_state.data.toList.drop 50 = dktX1_state_3 := dk_seg dksX1_state_2 22 rfl rfl
theorem dX1_state_0 : decode cX1_state 0 = .ok (.iload_n 1, 1) := dk_27 (dk_at dksX1_state_0 0 rfl rfl)
theorem dX1_state_1 : decode cX1_state 1 = .ok (.tableswitch 48 0 2 #[27, 32, 37], 27) := by decide +kernel
theorem dX1_state_28 : decode cX1_state 28 = .ok (.aload_n 0, 1) := dk_42 (dk_at dksX1_state_2 0 rfl rfl)
theorem dX1_state_29 : decode cX1_state 29 = .ok (.invokevirtual 187, 3) := dk_182 0 187 (dk_at dksX1_state_2 1 rfl rfl)
theorem dX1_state_32 : decode cX1_state 32 = .ok (.areturn, 1) := dk_176 (dk_at dksX1_state_2 4 rfl rfl)
theorem dX1_state_33 : decode cX1_state 33 = .ok (.aload_n 0, 1) := dk_42 (dk_at dksX1_state_2 5 rfl rfl)
theorem dX1_state_34 : decode cX1_state 34 = .ok (.invokevirtual 195, 3) := dk_182 0 195 (dk_at dksX1_state_2 6 rfl rfl)
theorem dX1_state_37 : decode cX1_state 37 = .ok (.areturn, 1) := dk_176 (dk_at dksX1_state_2 9 rfl rfl)
theorem dX1_state_38 : decode cX1_state 38 = .ok (.aload_n 0, 1) := dk_42 (dk_at dksX1_state_2 10 rfl rfl)
theorem dX1_state_39 : decode cX1_state 39 = .ok (.aload_n 0, 1) := dk_42 (dk_at dksX1_state_2 11 rfl rfl)
theorem dX1_state_40 : decode cX1_state 40 = .ok (.invokevirtual 198, 3) := dk_182 0 198 (dk_at dksX1_state_2 12 rfl rfl)
theorem dX1_state_43 : decode cX1_state 43 = .ok (.ldc 190, 2) := dk_18 190 (dk_at dksX1_state_2 15 rfl rfl)
theorem dX1_state_45 : decode cX1_state 45 = .ok (.invokevirtual 191, 3) := dk_182 0 191 (dk_at dksX1_state_2 17 rfl rfl)
theorem dX1_state_48 : decode cX1_state 48 = .ok (.areturn, 1) := dk_176 (dk_at dksX1_state_2 20 rfl rfl)
theorem dX1_state_49 : decode cX1_state 49 = .ok (.aload_n 0, 1) := dk_42 (dk_at dksX1_state_2 21 rfl rfl)
theorem dX1_state_50 : decode cX1_state 50 = .ok (.invokevirtual 198, 3) := dk_182 0 198 (dk_at dksX1_state_3 0 rfl rfl)
theorem dX1_state_53 : decode cX1_state 53 = .ok (.areturn, 1) := dk_176 (dk_at dksX1_state_3 3 rfl rfl)
def dkwX1_panic_2 : List UInt8 := [180, 0, 74, 120, 4, 100, 181, 0, 121, 43, 176]
abbrev dktX1_panic_2 : List UInt8 := dkwX1_panic_2 ++ []
def dkwX1_panic_1 : List UInt8 := [28, 182, 0, 91, 42, 28, 182, 0, 127, 184, 0, 109, 79, 132, 2, 1, 167, 255, 226, 43, 4, 42]
abbrev dktX1_panic_1 : List UInt8 := dkwX1_panic_1 ++ dktX1_panic_2
def dkwX1_panic_0 : List UInt8 := [187, 0, 50, 89, 183, 0, 52, 76, 3, 61, 28, 42, 180, 0, 70, 162, 0, 28, 43, 180, 0, 124, 28, 42]
abbrev dktX1_panic_0 : List UInt8 := dkwX1_panic_0 ++ dktX1_panic_1
theorem dksX1_panic_0 : cX1_panic.data.toList.drop 0 = dktX1_panic_0 := by decide +kernel
theorem dksX1_panic_1 : cX1_panic.data.toList.drop 24 = dktX1_panic_1 := dk_seg dksX1_panic_0 24 rfl rfl
theorem dksX1_panic_2 : cX1_panic.data.toList.drop 46 = dktX1_panic_2 := dk_seg dksX1_panic_1 22 rfl rfl
theorem dX1_panic_0 : decode cX1_panic 0 = .ok (.new 50, 3) := dk_187 0 50 (dk_at dksX1_panic_0 0 rfl rfl)
theorem dX1_panic_3 : decode cX1_panic 3 = .ok (.dup, 1) := dk_89 (dk_at dksX1_panic_0 3 rfl rfl)
theorem dX1_panic_4 : decode cX1_panic 4 = .ok (.invokespecial 52, 3) := dk_183 0 52 (dk_at dksX1_panic_0 4 rfl rfl)
theorem dX1_panic_7 : decode cX1_panic 7 = .ok (.astore_n 1, 1) := dk_76 (dk_at dksX1_panic_0 7 rfl rfl)
theorem dX1_panic_8 : decode cX1_panic 8 = .ok (.iconst 0, 1) := dk_3 (dk_at dksX1_panic_0 8 rfl rfl)
theorem dX1_panic_9 : decode cX1_panic 9 = .ok (.istore_n 2, 1) := dk_61 (dk_at dksX1_panic_0 9 rfl rfl)
theorem dX1_panic_10 : decode cX1_panic 10 = .ok (.iload_n 2, 1) := dk_28 (dk_at dksX1_panic_0 10 rfl rfl)
theorem dX1_panic_11 : decode cX1_panic 11 = .ok (.aload_n 0, 1) := dk_42 (dk_at dksX1_panic_0 11 rfl rfl)
theorem dX1_panic_12 : decode cX1_panic 12 = .ok (.getfield 70, 3) := dk_180 0 70 (dk_at dksX1_panic_0 12 rfl rfl)
theorem dX1_panic_15 : decode cX1_panic 15 = .ok (.if_icmp .ge 28, 3) := dk_162 0 28 (dk_at dksX1_panic_0 15 rfl rfl)
theorem dX1_panic_18 : decode cX1_panic 18 = .ok (.aload_n 1, 1) := dk_43 (dk_at dksX1_panic_0 18 rfl rfl)
theorem dX1_panic_19 : decode cX1_panic 19 = .ok (.getfield 124, 3) := dk_180 0 124 (dk_at dksX1_panic_0 19 rfl rfl)
theorem dX1_panic_22 : decode cX1_panic 22 = .ok (.iload_n 2, 1) := dk_28 (dk_at dksX1_panic_0 22 rfl rfl)
theorem dX1_panic_23 : decode cX1_panic 23 = .ok (.aload_n 0, 1) := dk_42 (dk_at dksX1_panic_0 23 rfl rfl)
theorem dX1_panic_24 : decode cX1_panic 24 = .ok (.iload_n 2, 1) := dk_28 (dk_at dksX1_panic_1 0 rfl rfl)
theorem dX1_panic_25 : decode cX1_panic 25 = .ok (.invokevirtual 91, 3) := dk_182 0 91 (dk_at dksX1_panic_1 1 rfl rfl)
theorem dX1_panic_28 : decode cX1_panic 28 = .ok (.aload_n 0, 1) := dk_42 (dk_at dksX1_panic_1 4 rfl rfl)
theorem dX1_panic_29 : decode cX1_panic 29 = .ok (.iload_n 2, 1) := dk_28 (dk_at dksX1_panic_1 5 rfl rfl)
theorem dX1_panic_30 : decode cX1_panic 30 = .ok (.invokevirtual 127, 3) := dk_182 0 127 (dk_at dksX1_panic_1 6 rfl rfl)
theorem dX1_panic_33 : decode cX1_panic 33 = .ok (.invokestatic 109, 3) := dk_184 0 109 (dk_at dksX1_panic_1 9 rfl rfl)
theorem dX1_panic_36 : decode cX1_panic 36 = .ok (.iastore, 1) := dk_79 (dk_at dksX1_panic_1 12 rfl rfl)
theorem dX1_panic_37 : decode cX1_panic 37 = .ok (.iinc 2 1, 3) := dk_132 2 1 (dk_at dksX1_panic_1 13 rfl rfl)
theorem dX1_panic_40 : decode cX1_panic 40 = .ok (.goto (-30), 3) := dk_167 255 226 (dk_at dksX1_panic_1 16 rfl rfl)
theorem dX1_panic_43 : decode cX1_panic 43 = .ok (.aload_n 1, 1) := dk_43 (dk_at dksX1_panic_1 19 rfl rfl)
theorem dX1_panic_44 : decode cX1_panic 44 = .ok (.iconst 1, 1) := dk_4 (dk_at dksX1_panic_1 20 rfl rfl)
theorem dX1_panic_45 : decode cX1_panic 45 = .ok (.aload_n 0, 1) := dk_42 (dk_at dksX1_panic_1 21 rfl rfl)
theorem dX1_panic_46 : decode cX1_panic 46 = .ok (.getfield 74, 3) := dk_180 0 74 (dk_at dksX1_panic_2 0 rfl rfl)
theorem dX1_panic_49 : decode cX1_panic 49 = .ok (.ishl, 1) := dk_120 (dk_at dksX1_panic_2 3 rfl rfl)
theorem dX1_panic_50 : decode cX1_panic 50 = .ok (.iconst 1, 1) := dk_4 (dk_at dksX1_panic_2 4 rfl rfl)
theorem dX1_panic_51 : decode cX1_panic 51 = .ok (.isub, 1) := dk_100 (dk_at dksX1_panic_2 5 rfl rfl)
theorem dX1_panic_52 : decode cX1_panic 52 = .ok (.putfield 121, 3) := dk_181 0 121 (dk_at dksX1_panic_2 6 rfl rfl)
theorem dX1_panic_55 : decode cX1_panic 55 = .ok (.aload_n 1, 1) := dk_43 (dk_at dksX1_panic_2 9 rfl rfl)
theorem dX1_panic_56 : decode cX1_panic 56 = .ok (.areturn, 1) := dk_176 (dk_at dksX1_panic_2 10 rfl rfl)
def dkwX1_tells_3 : List UInt8 := [42, 43, 182, 0, 208, 172, 43, 180, 0, 121, 184, 0, 212, 172, 42, 43, 182, 0, 217, 172, 2, 172]
abbrev dktX1_tells_3 : List UInt8 := dkwX1_tells_3 ++ []
def dkwX1_tells_2 : List UInt8 := [42, 28, 182, 0, 204, 153, 0, 12, 43, 180, 0, 124, 28, 46, 167, 0, 4, 2, 172, 43, 180, 0, 121, 172]
abbrev dktX1_tells_2 : List UInt8 := dkwX1_tells_2 ++ dktX1_tells_3
def dkwX1_tells_1 : List UInt8 := [170, 0, 0, 0, 0, 0, 91, 0, 0, 0, 0, 0, 0, 0, 7, 0, 0, 0, 47, 0, 0, 0, 47, 0, 0, 0, 47, 0, 0, 0, 47, 0, 0, 0, 66, 0, 0, 0, 71, 0, 0, 0, 77, 0, 0, 0, 85]
abbrev dktX1_tells_1 : List UInt8 := dkwX1_tells_1 ++ dktX1_tells_2
def dkwX1_tells_0 : List UInt8 := [28]
abbrev dktX1_tells_0 : List UInt8 := dkwX1_tells_0 ++ dktX1_tells_1
theorem dksX1_tells_0 : cX1_tells.data.toList.drop 0 = dktX1_tells_0 := by decide +kernel
theorem dksX1_tells_1 : cX1_tells.data.toList.drop 1 = dktX1_tells_1 := dk_seg dksX1_tells_0 1 rfl rfl
theorem dksX1_tells_2 : cX1_tells.data.toList.drop 48 = dktX1_tells_2 := dk_seg dksX1_tells_1 47 rfl rfl
theorem dksX1_tells_3 : cX1_tells.data.toList.drop 72 = dktX1_tells_3 := dk_seg dksX1_tells_2 24 rfl rfl
theorem dX1_tells_0 : decode cX1_tells 0 = .ok (.iload_n 2, 1) := dk_28 (dk_at dksX1_tells_0 0 rfl rfl)
theorem dX1_tells_1 : decode cX1_tells 1 = .ok (.tableswitch 91 0 7 #[47, 47, 47, 47, 66, 71, 77, 85], 47) := by decide +kernel
theorem dX1_tells_48 : decode cX1_tells 48 = .ok (.aload_n 0, 1) := dk_42 (dk_at dksX1_tells_2 0 rfl rfl)
theorem dX1_tells_49 : decode cX1_tells 49 = .ok (.iload_n 2, 1) := dk_28 (dk_at dksX1_tells_2 1 rfl rfl)
theorem dX1_tells_50 : decode cX1_tells 50 = .ok (.invokevirtual 204, 3) := dk_182 0 204 (dk_at dksX1_tells_2 2 rfl rfl)
theorem dX1_tells_53 : decode cX1_tells 53 = .ok (.ifCond .eq 12, 3) := dk_153 0 12 (dk_at dksX1_tells_2 5 rfl rfl)
theorem dX1_tells_56 : decode cX1_tells 56 = .ok (.aload_n 1, 1) := dk_43 (dk_at dksX1_tells_2 8 rfl rfl)
theorem dX1_tells_57 : decode cX1_tells 57 = .ok (.getfield 124, 3) := dk_180 0 124 (dk_at dksX1_tells_2 9 rfl rfl)
theorem dX1_tells_60 : decode cX1_tells 60 = .ok (.iload_n 2, 1) := dk_28 (dk_at dksX1_tells_2 12 rfl rfl)
theorem dX1_tells_61 : decode cX1_tells 61 = .ok (.iaload, 1) := dk_46 (dk_at dksX1_tells_2 13 rfl rfl)
theorem dX1_tells_62 : decode cX1_tells 62 = .ok (.goto 4, 3) := dk_167 0 4 (dk_at dksX1_tells_2 14 rfl rfl)
theorem dX1_tells_65 : decode cX1_tells 65 = .ok (.iconst (-1), 1) := dk_2 (dk_at dksX1_tells_2 17 rfl rfl)
theorem dX1_tells_66 : decode cX1_tells 66 = .ok (.ireturn, 1) := dk_172 (dk_at dksX1_tells_2 18 rfl rfl)
theorem dX1_tells_67 : decode cX1_tells 67 = .ok (.aload_n 1, 1) := dk_43 (dk_at dksX1_tells_2 19 rfl rfl)
theorem dX1_tells_68 : decode cX1_tells 68 = .ok (.getfield 121, 3) := dk_180 0 121 (dk_at dksX1_tells_2 20 rfl rfl)
theorem dX1_tells_71 : decode cX1_tells 71 = .ok (.ireturn, 1) := dk_172 (dk_at dksX1_tells_2 23 rfl rfl)
theorem dX1_tells_72 : decode cX1_tells 72 = .ok (.aload_n 0, 1) := dk_42 (dk_at dksX1_tells_3 0 rfl rfl)
theorem dX1_tells_73 : decode cX1_tells 73 = .ok (.aload_n 1, 1) := dk_43 (dk_at dksX1_tells_3 1 rfl rfl)
theorem dX1_tells_74 : decode cX1_tells 74 = .ok (.invokevirtual 208, 3) := dk_182 0 208 (dk_at dksX1_tells_3 2 rfl rfl)
theorem dX1_tells_77 : decode cX1_tells 77 = .ok (.ireturn, 1) := dk_172 (dk_at dksX1_tells_3 5 rfl rfl)
theorem dX1_tells_78 : decode cX1_tells 78 = .ok (.aload_n 1, 1) := dk_43 (dk_at dksX1_tells_3 6 rfl rfl)
theorem dX1_tells_79 : decode cX1_tells 79 = .ok (.getfield 121, 3) := dk_180 0 121 (dk_at dksX1_tells_3 7 rfl rfl)
theorem dX1_tells_82 : decode cX1_tells 82 = .ok (.invokestatic 212, 3) := dk_184 0 212 (dk_at dksX1_tells_3 10 rfl rfl)
theorem dX1_tells_85 : decode cX1_tells 85 = .ok (.ireturn, 1) := dk_172 (dk_at dksX1_tells_3 13 rfl rfl)
theorem dX1_tells_86 : decode cX1_tells 86 = .ok (.aload_n 0, 1) := dk_42 (dk_at dksX1_tells_3 14 rfl rfl)
theorem dX1_tells_87 : decode cX1_tells 87 = .ok (.aload_n 1, 1) := dk_43 (dk_at dksX1_tells_3 15 rfl rfl)
theorem dX1_tells_88 : decode cX1_tells 88 = .ok (.invokevirtual 217, 3) := dk_182 0 217 (dk_at dksX1_tells_3 16 rfl rfl)
theorem dX1_tells_91 : decode cX1_tells 91 = .ok (.ireturn, 1) := dk_172 (dk_at dksX1_tells_3 19 rfl rfl)
theorem dX1_tells_92 : decode cX1_tells 92 = .ok (.iconst (-1), 1) := dk_2 (dk_at dksX1_tells_3 20 rfl rfl)
theorem dX1_tells_93 : decode cX1_tells 93 = .ok (.ireturn, 1) := dk_172 (dk_at dksX1_tells_3 21 rfl rfl)
def dkwX1_lost_1 : List UInt8 := [43, 29, 182, 0, 135, 100, 104, 96, 61, 132, 3, 1, 167, 255, 224, 28, 172]
abbrev dktX1_lost_1 : List UInt8 := dkwX1_lost_1 ++ []
def dkwX1_lost_0 : List UInt8 := [3, 61, 3, 62, 29, 42, 180, 0, 70, 162, 0, 30, 28, 42, 29, 182, 0, 91, 42, 29, 182, 0, 201, 42]
abbrev dktX1_lost_0 : List UInt8 := dkwX1_lost_0 ++ dktX1_lost_1
theorem dksX1_lost_0 : cX1_lost.data.toList.drop 0 = dktX1_lost_0 := by decide +kernel
theorem dksX1_lost_1 : cX1_lost.data.toList.drop 24 = dktX1_lost_1 := dk_seg dksX1_lost_0 24 rfl rfl
theorem dX1_lost_0 : decode cX1_lost 0 = .ok (.iconst 0, 1) := dk_3 (dk_at dksX1_lost_0 0 rfl rfl)
theorem dX1_lost_1 : decode cX1_lost 1 = .ok (.istore_n 2, 1) := dk_61 (dk_at dksX1_lost_0 1 rfl rfl)
theorem dX1_lost_2 : decode cX1_lost 2 = .ok (.iconst 0, 1) := dk_3 (dk_at dksX1_lost_0 2 rfl rfl)
theorem dX1_lost_3 : decode cX1_lost 3 = .ok (.istore_n 3, 1) := dk_62 (dk_at dksX1_lost_0 3 rfl rfl)
theorem dX1_lost_4 : decode cX1_lost 4 = .ok (.iload_n 3, 1) := dk_29 (dk_at dksX1_lost_0 4 rfl rfl)
theorem dX1_lost_5 : decode cX1_lost 5 = .ok (.aload_n 0, 1) := dk_42 (dk_at dksX1_lost_0 5 rfl rfl)
theorem dX1_lost_6 : decode cX1_lost 6 = .ok (.getfield 70, 3) := dk_180 0 70 (dk_at dksX1_lost_0 6 rfl rfl)
theorem dX1_lost_9 : decode cX1_lost 9 = .ok (.if_icmp .ge 30, 3) := dk_162 0 30 (dk_at dksX1_lost_0 9 rfl rfl)
theorem dX1_lost_12 : decode cX1_lost 12 = .ok (.iload_n 2, 1) := dk_28 (dk_at dksX1_lost_0 12 rfl rfl)
theorem dX1_lost_13 : decode cX1_lost 13 = .ok (.aload_n 0, 1) := dk_42 (dk_at dksX1_lost_0 13 rfl rfl)
theorem dX1_lost_14 : decode cX1_lost 14 = .ok (.iload_n 3, 1) := dk_29 (dk_at dksX1_lost_0 14 rfl rfl)
theorem dX1_lost_15 : decode cX1_lost 15 = .ok (.invokevirtual 91, 3) := dk_182 0 91 (dk_at dksX1_lost_0 15 rfl rfl)
theorem dX1_lost_18 : decode cX1_lost 18 = .ok (.aload_n 0, 1) := dk_42 (dk_at dksX1_lost_0 18 rfl rfl)
theorem dX1_lost_19 : decode cX1_lost 19 = .ok (.iload_n 3, 1) := dk_29 (dk_at dksX1_lost_0 19 rfl rfl)
theorem dX1_lost_20 : decode cX1_lost 20 = .ok (.invokevirtual 201, 3) := dk_182 0 201 (dk_at dksX1_lost_0 20 rfl rfl)
theorem dX1_lost_23 : decode cX1_lost 23 = .ok (.aload_n 0, 1) := dk_42 (dk_at dksX1_lost_0 23 rfl rfl)
theorem dX1_lost_24 : decode cX1_lost 24 = .ok (.aload_n 1, 1) := dk_43 (dk_at dksX1_lost_1 0 rfl rfl)
theorem dX1_lost_25 : decode cX1_lost 25 = .ok (.iload_n 3, 1) := dk_29 (dk_at dksX1_lost_1 1 rfl rfl)
theorem dX1_lost_26 : decode cX1_lost 26 = .ok (.invokevirtual 135, 3) := dk_182 0 135 (dk_at dksX1_lost_1 2 rfl rfl)
theorem dX1_lost_29 : decode cX1_lost 29 = .ok (.isub, 1) := dk_100 (dk_at dksX1_lost_1 5 rfl rfl)
theorem dX1_lost_30 : decode cX1_lost 30 = .ok (.imul, 1) := dk_104 (dk_at dksX1_lost_1 6 rfl rfl)
theorem dX1_lost_31 : decode cX1_lost 31 = .ok (.iadd, 1) := dk_96 (dk_at dksX1_lost_1 7 rfl rfl)
theorem dX1_lost_32 : decode cX1_lost 32 = .ok (.istore_n 2, 1) := dk_61 (dk_at dksX1_lost_1 8 rfl rfl)
theorem dX1_lost_33 : decode cX1_lost 33 = .ok (.iinc 3 1, 3) := dk_132 3 1 (dk_at dksX1_lost_1 9 rfl rfl)
theorem dX1_lost_36 : decode cX1_lost 36 = .ok (.goto (-32), 3) := dk_167 255 224 (dk_at dksX1_lost_1 12 rfl rfl)
theorem dX1_lost_39 : decode cX1_lost 39 = .ok (.iload_n 2, 1) := dk_28 (dk_at dksX1_lost_1 15 rfl rfl)
theorem dX1_lost_40 : decode cX1_lost 40 = .ok (.ireturn, 1) := dk_172 (dk_at dksX1_lost_1 16 rfl rfl)
def dkwX1_calmPrice_0 : List UInt8 := [3, 42, 180, 0, 11, 27, 50, 3, 46, 42, 27, 182, 0, 132, 100, 184, 0, 129, 172]
abbrev dktX1_calmPrice_0 : List UInt8 := dkwX1_calmPrice_0 ++ []
theorem dksX1_calmPrice_0 : cX1_calmPrice.data.toList.drop 0 = dktX1_calmPrice_0 := by decide +kernel
theorem dX1_calmPrice_0 : decode cX1_calmPrice 0 = .ok (.iconst 0, 1) := dk_3 (dk_at dksX1_calmPrice_0 0 rfl rfl)
theorem dX1_calmPrice_1 : decode cX1_calmPrice 1 = .ok (.aload_n 0, 1) := dk_42 (dk_at dksX1_calmPrice_0 1 rfl rfl)
theorem dX1_calmPrice_2 : decode cX1_calmPrice 2 = .ok (.getfield 11, 3) := dk_180 0 11 (dk_at dksX1_calmPrice_0 2 rfl rfl)
theorem dX1_calmPrice_5 : decode cX1_calmPrice 5 = .ok (.iload_n 1, 1) := dk_27 (dk_at dksX1_calmPrice_0 5 rfl rfl)
theorem dX1_calmPrice_6 : decode cX1_calmPrice 6 = .ok (.aaload, 1) := dk_50 (dk_at dksX1_calmPrice_0 6 rfl rfl)
theorem dX1_calmPrice_7 : decode cX1_calmPrice 7 = .ok (.iconst 0, 1) := dk_3 (dk_at dksX1_calmPrice_0 7 rfl rfl)
theorem dX1_calmPrice_8 : decode cX1_calmPrice 8 = .ok (.iaload, 1) := dk_46 (dk_at dksX1_calmPrice_0 8 rfl rfl)
theorem dX1_calmPrice_9 : decode cX1_calmPrice 9 = .ok (.aload_n 0, 1) := dk_42 (dk_at dksX1_calmPrice_0 9 rfl rfl)
theorem dX1_calmPrice_10 : decode cX1_calmPrice 10 = .ok (.iload_n 1, 1) := dk_27 (dk_at dksX1_calmPrice_0 10 rfl rfl)
theorem dX1_calmPrice_11 : decode cX1_calmPrice 11 = .ok (.invokevirtual 132, 3) := dk_182 0 132 (dk_at dksX1_calmPrice_0 11 rfl rfl)
theorem dX1_calmPrice_14 : decode cX1_calmPrice 14 = .ok (.isub, 1) := dk_100 (dk_at dksX1_calmPrice_0 14 rfl rfl)
theorem dX1_calmPrice_15 : decode cX1_calmPrice 15 = .ok (.invokestatic 129, 3) := dk_184 0 129 (dk_at dksX1_calmPrice_0 15 rfl rfl)
theorem dX1_calmPrice_18 : decode cX1_calmPrice 18 = .ok (.ireturn, 1) := dk_172 (dk_at dksX1_calmPrice_0 18 rfl rfl)
def dkwX1_rounds_0 : List UInt8 := [42, 43, 18, 190, 182, 0, 191, 77, 42, 180, 0, 173, 172]
abbrev dktX1_rounds_0 : List UInt8 := dkwX1_rounds_0 ++ []
theorem dksX1_rounds_0 : cX1_rounds.data.toList.drop 0 = dktX1_rounds_0 := by decide +kernel
theorem dX1_rounds_0 : decode cX1_rounds 0 = .ok (.aload_n 0, 1) := dk_42 (dk_at dksX1_rounds_0 0 rfl rfl)
theorem dX1_rounds_1 : decode cX1_rounds 1 = .ok (.aload_n 1, 1) := dk_43 (dk_at dksX1_rounds_0 1 rfl rfl)
theorem dX1_rounds_2 : decode cX1_rounds 2 = .ok (.ldc 190, 2) := dk_18 190 (dk_at dksX1_rounds_0 2 rfl rfl)
theorem dX1_rounds_4 : decode cX1_rounds 4 = .ok (.invokevirtual 191, 3) := dk_182 0 191 (dk_at dksX1_rounds_0 4 rfl rfl)
theorem dX1_rounds_7 : decode cX1_rounds 7 = .ok (.astore_n 2, 1) := dk_77 (dk_at dksX1_rounds_0 7 rfl rfl)
theorem dX1_rounds_8 : decode cX1_rounds 8 = .ok (.aload_n 0, 1) := dk_42 (dk_at dksX1_rounds_0 8 rfl rfl)
theorem dX1_rounds_9 : decode cX1_rounds 9 = .ok (.getfield 173, 3) := dk_180 0 173 (dk_at dksX1_rounds_0 9 rfl rfl)
theorem dX1_rounds_12 : decode cX1_rounds 12 = .ok (.ireturn, 1) := dk_172 (dk_at dksX1_rounds_0 12 rfl rfl)
def dkwX1_behind_0 : List UInt8 := [42, 42, 182, 0, 187, 27, 182, 0, 191, 176]
abbrev dktX1_behind_0 : List UInt8 := dkwX1_behind_0 ++ []
theorem dksX1_behind_0 : cX1_behind.data.toList.drop 0 = dktX1_behind_0 := by decide +kernel
theorem dX1_behind_0 : decode cX1_behind 0 = .ok (.aload_n 0, 1) := dk_42 (dk_at dksX1_behind_0 0 rfl rfl)
theorem dX1_behind_1 : decode cX1_behind 1 = .ok (.aload_n 0, 1) := dk_42 (dk_at dksX1_behind_0 1 rfl rfl)
theorem dX1_behind_2 : decode cX1_behind 2 = .ok (.invokevirtual 187, 3) := dk_182 0 187 (dk_at dksX1_behind_0 2 rfl rfl)
theorem dX1_behind_5 : decode cX1_behind 5 = .ok (.iload_n 1, 1) := dk_27 (dk_at dksX1_behind_0 5 rfl rfl)
theorem dX1_behind_6 : decode cX1_behind 6 = .ok (.invokevirtual 191, 3) := dk_182 0 191 (dk_at dksX1_behind_0 6 rfl rfl)
theorem dX1_behind_9 : decode cX1_behind 9 = .ok (.areturn, 1) := dk_176 (dk_at dksX1_behind_0 9 rfl rfl)
def dkwX1_falls_4 : List UInt8 := [167, 255, 219, 132, 4, 1, 167, 255, 187, 43, 176]
abbrev dktX1_falls_4 : List UInt8 := dkwX1_falls_4 ++ []
def dkwX1_falls_3 : List UInt8 := [184, 0, 139, 153, 0, 16, 43, 21, 5, 43, 21, 5, 46, 21, 4, 184, 0, 109, 79, 132, 5, 1]
abbrev dktX1_falls_3 : List UInt8 := dkwX1_falls_3 ++ dktX1_falls_4
def dkwX1_falls_2 : List UInt8 := [180, 0, 57, 182, 0, 170, 3, 54, 5, 21, 5, 42, 180, 0, 74, 162, 0, 34, 45, 180, 0, 121, 21, 5]
abbrev dktX1_falls_2 : List UInt8 := dkwX1_falls_2 ++ dktX1_falls_3
def dkwX1_falls_1 : List UInt8 := [182, 0, 187, 78, 4, 54, 4, 21, 4, 28, 163, 0, 69, 42, 45, 42, 180, 0, 57, 182, 0, 176, 45, 42]
abbrev dktX1_falls_1 : List UInt8 := dkwX1_falls_1 ++ dktX1_falls_2
def dkwX1_falls_0 : List UInt8 := [16, 6, 188, 10, 76, 43, 17, 7, 208, 184, 0, 164, 42, 42, 182, 0, 187, 182, 0, 232, 61, 42]
abbrev dktX1_falls_0 : List UInt8 := dkwX1_falls_0 ++ dktX1_falls_1
theorem dksX1_falls_0 : cX1_falls.data.toList.drop 0 = dktX1_falls_0 := by decide +kernel
theorem dksX1_falls_1 : cX1_falls.data.toList.drop 22 = dktX1_falls_1 := dk_seg dksX1_falls_0 22 rfl rfl
theorem dksX1_falls_2 : cX1_falls.data.toList.drop 46 = dktX1_falls_2 := dk_seg dksX1_falls_1 24 rfl rfl
theorem dksX1_falls_3 : cX1_falls.data.toList.drop 70 = dktX1_falls_3 := dk_seg dksX1_falls_2 24 rfl rfl
theorem dksX1_falls_4 : cX1_falls.data.toList.drop 92 = dktX1_falls_4 := dk_seg dksX1_falls_3 22 rfl rfl
theorem dX1_falls_0 : decode cX1_falls 0 = .ok (.bipush 6, 2) := dk_16 6 (dk_at dksX1_falls_0 0 rfl rfl)
theorem dX1_falls_2 : decode cX1_falls 2 = .ok (.newarray .int, 2) := dk_188_10 (dk_at dksX1_falls_0 2 rfl rfl)
theorem dX1_falls_4 : decode cX1_falls 4 = .ok (.astore_n 1, 1) := dk_76 (dk_at dksX1_falls_0 4 rfl rfl)
theorem dX1_falls_5 : decode cX1_falls 5 = .ok (.aload_n 1, 1) := dk_43 (dk_at dksX1_falls_0 5 rfl rfl)
theorem dX1_falls_6 : decode cX1_falls 6 = .ok (.sipush 2000, 3) := dk_17 7 208 (dk_at dksX1_falls_0 6 rfl rfl)
theorem dX1_falls_9 : decode cX1_falls 9 = .ok (.invokestatic 164, 3) := dk_184 0 164 (dk_at dksX1_falls_0 9 rfl rfl)
theorem dX1_falls_12 : decode cX1_falls 12 = .ok (.aload_n 0, 1) := dk_42 (dk_at dksX1_falls_0 12 rfl rfl)
theorem dX1_falls_13 : decode cX1_falls 13 = .ok (.aload_n 0, 1) := dk_42 (dk_at dksX1_falls_0 13 rfl rfl)
theorem dX1_falls_14 : decode cX1_falls 14 = .ok (.invokevirtual 187, 3) := dk_182 0 187 (dk_at dksX1_falls_0 14 rfl rfl)
theorem dX1_falls_17 : decode cX1_falls 17 = .ok (.invokevirtual 232, 3) := dk_182 0 232 (dk_at dksX1_falls_0 17 rfl rfl)
theorem dX1_falls_20 : decode cX1_falls 20 = .ok (.istore_n 2, 1) := dk_61 (dk_at dksX1_falls_0 20 rfl rfl)
theorem dX1_falls_21 : decode cX1_falls 21 = .ok (.aload_n 0, 1) := dk_42 (dk_at dksX1_falls_0 21 rfl rfl)
theorem dX1_falls_22 : decode cX1_falls 22 = .ok (.invokevirtual 187, 3) := dk_182 0 187 (dk_at dksX1_falls_1 0 rfl rfl)
theorem dX1_falls_25 : decode cX1_falls 25 = .ok (.astore_n 3, 1) := dk_78 (dk_at dksX1_falls_1 3 rfl rfl)
theorem dX1_falls_26 : decode cX1_falls 26 = .ok (.iconst 1, 1) := dk_4 (dk_at dksX1_falls_1 4 rfl rfl)
theorem dX1_falls_27 : decode cX1_falls 27 = .ok (.istore 4, 2) := dk_54 4 (dk_at dksX1_falls_1 5 rfl rfl)
theorem dX1_falls_29 : decode cX1_falls 29 = .ok (.iload 4, 2) := dk_21 4 (dk_at dksX1_falls_1 7 rfl rfl)
theorem dX1_falls_31 : decode cX1_falls 31 = .ok (.iload_n 2, 1) := dk_28 (dk_at dksX1_falls_1 9 rfl rfl)
theorem dX1_falls_32 : decode cX1_falls 32 = .ok (.if_icmp .gt 69, 3) := dk_163 0 69 (dk_at dksX1_falls_1 10 rfl rfl)
theorem dX1_falls_35 : decode cX1_falls 35 = .ok (.aload_n 0, 1) := dk_42 (dk_at dksX1_falls_1 13 rfl rfl)
theorem dX1_falls_36 : decode cX1_falls 36 = .ok (.aload_n 3, 1) := dk_45 (dk_at dksX1_falls_1 14 rfl rfl)
theorem dX1_falls_37 : decode cX1_falls 37 = .ok (.aload_n 0, 1) := dk_42 (dk_at dksX1_falls_1 15 rfl rfl)
theorem dX1_falls_38 : decode cX1_falls 38 = .ok (.getfield 57, 3) := dk_180 0 57 (dk_at dksX1_falls_1 16 rfl rfl)
theorem dX1_falls_41 : decode cX1_falls 41 = .ok (.invokevirtual 176, 3) := dk_182 0 176 (dk_at dksX1_falls_1 19 rfl rfl)
theorem dX1_falls_44 : decode cX1_falls 44 = .ok (.aload_n 3, 1) := dk_45 (dk_at dksX1_falls_1 22 rfl rfl)
theorem dX1_falls_45 : decode cX1_falls 45 = .ok (.aload_n 0, 1) := dk_42 (dk_at dksX1_falls_1 23 rfl rfl)
theorem dX1_falls_46 : decode cX1_falls 46 = .ok (.getfield 57, 3) := dk_180 0 57 (dk_at dksX1_falls_2 0 rfl rfl)
theorem dX1_falls_49 : decode cX1_falls 49 = .ok (.invokevirtual 170, 3) := dk_182 0 170 (dk_at dksX1_falls_2 3 rfl rfl)
theorem dX1_falls_52 : decode cX1_falls 52 = .ok (.iconst 0, 1) := dk_3 (dk_at dksX1_falls_2 6 rfl rfl)
theorem dX1_falls_53 : decode cX1_falls 53 = .ok (.istore 5, 2) := dk_54 5 (dk_at dksX1_falls_2 7 rfl rfl)
theorem dX1_falls_55 : decode cX1_falls 55 = .ok (.iload 5, 2) := dk_21 5 (dk_at dksX1_falls_2 9 rfl rfl)
theorem dX1_falls_57 : decode cX1_falls 57 = .ok (.aload_n 0, 1) := dk_42 (dk_at dksX1_falls_2 11 rfl rfl)
theorem dX1_falls_58 : decode cX1_falls 58 = .ok (.getfield 74, 3) := dk_180 0 74 (dk_at dksX1_falls_2 12 rfl rfl)
theorem dX1_falls_61 : decode cX1_falls 61 = .ok (.if_icmp .ge 34, 3) := dk_162 0 34 (dk_at dksX1_falls_2 15 rfl rfl)
theorem dX1_falls_64 : decode cX1_falls 64 = .ok (.aload_n 3, 1) := dk_45 (dk_at dksX1_falls_2 18 rfl rfl)
theorem dX1_falls_65 : decode cX1_falls 65 = .ok (.getfield 121, 3) := dk_180 0 121 (dk_at dksX1_falls_2 19 rfl rfl)
theorem dX1_falls_68 : decode cX1_falls 68 = .ok (.iload 5, 2) := dk_21 5 (dk_at dksX1_falls_2 22 rfl rfl)
theorem dX1_falls_70 : decode cX1_falls 70 = .ok (.invokestatic 139, 3) := dk_184 0 139 (dk_at dksX1_falls_3 0 rfl rfl)
theorem dX1_falls_73 : decode cX1_falls 73 = .ok (.ifCond .eq 16, 3) := dk_153 0 16 (dk_at dksX1_falls_3 3 rfl rfl)
theorem dX1_falls_76 : decode cX1_falls 76 = .ok (.aload_n 1, 1) := dk_43 (dk_at dksX1_falls_3 6 rfl rfl)
theorem dX1_falls_77 : decode cX1_falls 77 = .ok (.iload 5, 2) := dk_21 5 (dk_at dksX1_falls_3 7 rfl rfl)
theorem dX1_falls_79 : decode cX1_falls 79 = .ok (.aload_n 1, 1) := dk_43 (dk_at dksX1_falls_3 9 rfl rfl)
theorem dX1_falls_80 : decode cX1_falls 80 = .ok (.iload 5, 2) := dk_21 5 (dk_at dksX1_falls_3 10 rfl rfl)
theorem dX1_falls_82 : decode cX1_falls 82 = .ok (.iaload, 1) := dk_46 (dk_at dksX1_falls_3 12 rfl rfl)
theorem dX1_falls_83 : decode cX1_falls 83 = .ok (.iload 4, 2) := dk_21 4 (dk_at dksX1_falls_3 13 rfl rfl)
theorem dX1_falls_85 : decode cX1_falls 85 = .ok (.invokestatic 109, 3) := dk_184 0 109 (dk_at dksX1_falls_3 15 rfl rfl)
theorem dX1_falls_88 : decode cX1_falls 88 = .ok (.iastore, 1) := dk_79 (dk_at dksX1_falls_3 18 rfl rfl)
theorem dX1_falls_89 : decode cX1_falls 89 = .ok (.iinc 5 1, 3) := dk_132 5 1 (dk_at dksX1_falls_3 19 rfl rfl)
theorem dX1_falls_92 : decode cX1_falls 92 = .ok (.goto (-37), 3) := dk_167 255 219 (dk_at dksX1_falls_4 0 rfl rfl)
theorem dX1_falls_95 : decode cX1_falls 95 = .ok (.iinc 4 1, 3) := dk_132 4 1 (dk_at dksX1_falls_4 3 rfl rfl)
theorem dX1_falls_98 : decode cX1_falls 98 = .ok (.goto (-69), 3) := dk_167 255 187 (dk_at dksX1_falls_4 6 rfl rfl)
theorem dX1_falls_101 : decode cX1_falls 101 = .ok (.aload_n 1, 1) := dk_43 (dk_at dksX1_falls_4 9 rfl rfl)
theorem dX1_falls_102 : decode cX1_falls 102 = .ok (.areturn, 1) := dk_176 (dk_at dksX1_falls_4 10 rfl rfl)
def dkwX1_behind_2_0 : List UInt8 := [42, 43, 28, 182, 0, 191, 176]
abbrev dktX1_behind_2_0 : List UInt8 := dkwX1_behind_2_0 ++ []
theorem dksX1_behind_2_0 : cX1_behind_2.data.toList.drop 0 = dktX1_behind_2_0 := by decide +kernel
theorem dX1_behind_2_0 : decode cX1_behind_2 0 = .ok (.aload_n 0, 1) := dk_42 (dk_at dksX1_behind_2_0 0 rfl rfl)
theorem dX1_behind_2_1 : decode cX1_behind_2 1 = .ok (.aload_n 1, 1) := dk_43 (dk_at dksX1_behind_2_0 1 rfl rfl)
theorem dX1_behind_2_2 : decode cX1_behind_2 2 = .ok (.iload_n 2, 1) := dk_28 (dk_at dksX1_behind_2_0 2 rfl rfl)
theorem dX1_behind_2_3 : decode cX1_behind_2 3 = .ok (.invokevirtual 191, 3) := dk_182 0 191 (dk_at dksX1_behind_2_0 3 rfl rfl)
theorem dX1_behind_2_6 : decode cX1_behind_2 6 = .ok (.areturn, 1) := dk_176 (dk_at dksX1_behind_2_0 6 rfl rfl)
def dkwX1_index_2 : List UInt8 := [167, 255, 226, 36, 29, 134, 110, 174]
abbrev dktX1_index_2 : List UInt8 := dkwX1_index_2 ++ []
def dkwX1_index_1 : List UInt8 := [162, 0, 27, 36, 42, 43, 21, 4, 182, 0, 223, 42, 21, 4, 182, 0, 91, 134, 106, 98, 69, 132, 4, 1]
abbrev dktX1_index_1 : List UInt8 := dkwX1_index_1 ++ dktX1_index_2
def dkwX1_index_0 : List UInt8 := [11, 69, 42, 182, 0, 220, 62, 29, 154, 0, 5, 12, 174, 3, 54, 4, 21, 4, 42, 180, 0, 70]
abbrev dktX1_index_0 : List UInt8 := dkwX1_index_0 ++ dktX1_index_1
theorem dksX1_index_0 : cX1_index.data.toList.drop 0 = dktX1_index_0 := by decide +kernel
theorem dksX1_index_1 : cX1_index.data.toList.drop 22 = dktX1_index_1 := dk_seg dksX1_index_0 22 rfl rfl
theorem dksX1_index_2 : cX1_index.data.toList.drop 46 = dktX1_index_2 := dk_seg dksX1_index_1 24 rfl rfl
theorem dX1_index_0 : decode cX1_index 0 = .ok (.fconst 0, 1) := dk_11 (dk_at dksX1_index_0 0 rfl rfl)
theorem dX1_index_1 : decode cX1_index 1 = .ok (.fstore_n 2, 1) := dk_69 (dk_at dksX1_index_0 1 rfl rfl)
theorem dX1_index_2 : decode cX1_index 2 = .ok (.aload_n 0, 1) := dk_42 (dk_at dksX1_index_0 2 rfl rfl)
theorem dX1_index_3 : decode cX1_index 3 = .ok (.invokevirtual 220, 3) := dk_182 0 220 (dk_at dksX1_index_0 3 rfl rfl)
theorem dX1_index_6 : decode cX1_index 6 = .ok (.istore_n 3, 1) := dk_62 (dk_at dksX1_index_0 6 rfl rfl)
theorem dX1_index_7 : decode cX1_index 7 = .ok (.iload_n 3, 1) := dk_29 (dk_at dksX1_index_0 7 rfl rfl)
theorem dX1_index_8 : decode cX1_index 8 = .ok (.ifCond .ne 5, 3) := dk_154 0 5 (dk_at dksX1_index_0 8 rfl rfl)
theorem dX1_index_11 : decode cX1_index 11 = .ok (.fconst 1, 1) := dk_12 (dk_at dksX1_index_0 11 rfl rfl)
theorem dX1_index_12 : decode cX1_index 12 = .ok (.freturn, 1) := dk_174 (dk_at dksX1_index_0 12 rfl rfl)
theorem dX1_index_13 : decode cX1_index 13 = .ok (.iconst 0, 1) := dk_3 (dk_at dksX1_index_0 13 rfl rfl)
theorem dX1_index_14 : decode cX1_index 14 = .ok (.istore 4, 2) := dk_54 4 (dk_at dksX1_index_0 14 rfl rfl)
theorem dX1_index_16 : decode cX1_index 16 = .ok (.iload 4, 2) := dk_21 4 (dk_at dksX1_index_0 16 rfl rfl)
theorem dX1_index_18 : decode cX1_index 18 = .ok (.aload_n 0, 1) := dk_42 (dk_at dksX1_index_0 18 rfl rfl)
theorem dX1_index_19 : decode cX1_index 19 = .ok (.getfield 70, 3) := dk_180 0 70 (dk_at dksX1_index_0 19 rfl rfl)
theorem dX1_index_22 : decode cX1_index 22 = .ok (.if_icmp .ge 27, 3) := dk_162 0 27 (dk_at dksX1_index_1 0 rfl rfl)
theorem dX1_index_25 : decode cX1_index 25 = .ok (.fload_n 2, 1) := dk_36 (dk_at dksX1_index_1 3 rfl rfl)
theorem dX1_index_26 : decode cX1_index 26 = .ok (.aload_n 0, 1) := dk_42 (dk_at dksX1_index_1 4 rfl rfl)
theorem dX1_index_27 : decode cX1_index 27 = .ok (.aload_n 1, 1) := dk_43 (dk_at dksX1_index_1 5 rfl rfl)
theorem dX1_index_28 : decode cX1_index 28 = .ok (.iload 4, 2) := dk_21 4 (dk_at dksX1_index_1 6 rfl rfl)
theorem dX1_index_30 : decode cX1_index 30 = .ok (.invokevirtual 223, 3) := dk_182 0 223 (dk_at dksX1_index_1 8 rfl rfl)
theorem dX1_index_33 : decode cX1_index 33 = .ok (.aload_n 0, 1) := dk_42 (dk_at dksX1_index_1 11 rfl rfl)
theorem dX1_index_34 : decode cX1_index 34 = .ok (.iload 4, 2) := dk_21 4 (dk_at dksX1_index_1 12 rfl rfl)
theorem dX1_index_36 : decode cX1_index 36 = .ok (.invokevirtual 91, 3) := dk_182 0 91 (dk_at dksX1_index_1 14 rfl rfl)
theorem dX1_index_39 : decode cX1_index 39 = .ok (.i2f, 1) := dk_134 (dk_at dksX1_index_1 17 rfl rfl)
theorem dX1_index_40 : decode cX1_index 40 = .ok (.fmul, 1) := dk_106 (dk_at dksX1_index_1 18 rfl rfl)
theorem dX1_index_41 : decode cX1_index 41 = .ok (.fadd, 1) := dk_98 (dk_at dksX1_index_1 19 rfl rfl)
theorem dX1_index_42 : decode cX1_index 42 = .ok (.fstore_n 2, 1) := dk_69 (dk_at dksX1_index_1 20 rfl rfl)
theorem dX1_index_43 : decode cX1_index 43 = .ok (.iinc 4 1, 3) := dk_132 4 1 (dk_at dksX1_index_1 21 rfl rfl)
theorem dX1_index_46 : decode cX1_index 46 = .ok (.goto (-30), 3) := dk_167 255 226 (dk_at dksX1_index_2 0 rfl rfl)
theorem dX1_index_49 : decode cX1_index 49 = .ok (.fload_n 2, 1) := dk_36 (dk_at dksX1_index_2 3 rfl rfl)
theorem dX1_index_50 : decode cX1_index 50 = .ok (.iload_n 3, 1) := dk_29 (dk_at dksX1_index_2 4 rfl rfl)
theorem dX1_index_51 : decode cX1_index 51 = .ok (.i2f, 1) := dk_134 (dk_at dksX1_index_2 5 rfl rfl)
theorem dX1_index_52 : decode cX1_index 52 = .ok (.fdiv, 1) := dk_110 (dk_at dksX1_index_2 6 rfl rfl)
theorem dX1_index_53 : decode cX1_index 53 = .ok (.freturn, 1) := dk_174 (dk_at dksX1_index_2 7 rfl rfl)
def dkwX1_heldAll_1 : List UInt8 := [167, 255, 237, 27, 172]
abbrev dktX1_heldAll_1 : List UInt8 := dkwX1_heldAll_1 ++ []
def dkwX1_heldAll_0 : List UInt8 := [3, 60, 3, 61, 28, 42, 180, 0, 70, 162, 0, 17, 27, 42, 28, 182, 0, 91, 96, 60, 132, 2, 1]
abbrev dktX1_heldAll_0 : List UInt8 := dkwX1_heldAll_0 ++ dktX1_heldAll_1
theorem dksX1_heldAll_0 : cX1_heldAll.data.toList.drop 0 = dktX1_heldAll_0 := by decide +kernel
theorem dksX1_heldAll_1 : cX1_heldAll.data.toList.drop 23 = dktX1_heldAll_1 := dk_seg dksX1_heldAll_0 23 rfl rfl
theorem dX1_heldAll_0 : decode cX1_heldAll 0 = .ok (.iconst 0, 1) := dk_3 (dk_at dksX1_heldAll_0 0 rfl rfl)
theorem dX1_heldAll_1 : decode cX1_heldAll 1 = .ok (.istore_n 1, 1) := dk_60 (dk_at dksX1_heldAll_0 1 rfl rfl)
theorem dX1_heldAll_2 : decode cX1_heldAll 2 = .ok (.iconst 0, 1) := dk_3 (dk_at dksX1_heldAll_0 2 rfl rfl)
theorem dX1_heldAll_3 : decode cX1_heldAll 3 = .ok (.istore_n 2, 1) := dk_61 (dk_at dksX1_heldAll_0 3 rfl rfl)
theorem dX1_heldAll_4 : decode cX1_heldAll 4 = .ok (.iload_n 2, 1) := dk_28 (dk_at dksX1_heldAll_0 4 rfl rfl)
theorem dX1_heldAll_5 : decode cX1_heldAll 5 = .ok (.aload_n 0, 1) := dk_42 (dk_at dksX1_heldAll_0 5 rfl rfl)
theorem dX1_heldAll_6 : decode cX1_heldAll 6 = .ok (.getfield 70, 3) := dk_180 0 70 (dk_at dksX1_heldAll_0 6 rfl rfl)
theorem dX1_heldAll_9 : decode cX1_heldAll 9 = .ok (.if_icmp .ge 17, 3) := dk_162 0 17 (dk_at dksX1_heldAll_0 9 rfl rfl)
theorem dX1_heldAll_12 : decode cX1_heldAll 12 = .ok (.iload_n 1, 1) := dk_27 (dk_at dksX1_heldAll_0 12 rfl rfl)
theorem dX1_heldAll_13 : decode cX1_heldAll 13 = .ok (.aload_n 0, 1) := dk_42 (dk_at dksX1_heldAll_0 13 rfl rfl)
theorem dX1_heldAll_14 : decode cX1_heldAll 14 = .ok (.iload_n 2, 1) := dk_28 (dk_at dksX1_heldAll_0 14 rfl rfl)
theorem dX1_heldAll_15 : decode cX1_heldAll 15 = .ok (.invokevirtual 91, 3) := dk_182 0 91 (dk_at dksX1_heldAll_0 15 rfl rfl)
theorem dX1_heldAll_18 : decode cX1_heldAll 18 = .ok (.iadd, 1) := dk_96 (dk_at dksX1_heldAll_0 18 rfl rfl)
theorem dX1_heldAll_19 : decode cX1_heldAll 19 = .ok (.istore_n 1, 1) := dk_60 (dk_at dksX1_heldAll_0 19 rfl rfl)
theorem dX1_heldAll_20 : decode cX1_heldAll 20 = .ok (.iinc 2 1, 3) := dk_132 2 1 (dk_at dksX1_heldAll_0 20 rfl rfl)
theorem dX1_heldAll_23 : decode cX1_heldAll 23 = .ok (.goto (-19), 3) := dk_167 255 237 (dk_at dksX1_heldAll_1 0 rfl rfl)
theorem dX1_heldAll_26 : decode cX1_heldAll 26 = .ok (.iload_n 1, 1) := dk_27 (dk_at dksX1_heldAll_1 3 rfl rfl)
theorem dX1_heldAll_27 : decode cX1_heldAll 27 = .ok (.ireturn, 1) := dk_172 (dk_at dksX1_heldAll_1 4 rfl rfl)
def dkwX1_ratio_1 : List UInt8 := [174]
abbrev dktX1_ratio_1 : List UInt8 := dkwX1_ratio_1 ++ []
def dkwX1_ratio_0 : List UInt8 := [42, 28, 182, 0, 201, 62, 29, 154, 0, 7, 12, 167, 0, 13, 42, 43, 28, 182, 0, 135, 134, 29, 134, 110]
abbrev dktX1_ratio_0 : List UInt8 := dkwX1_ratio_0 ++ dktX1_ratio_1
theorem dksX1_ratio_0 : cX1_ratio.data.toList.drop 0 = dktX1_ratio_0 := by decide +kernel
theorem dksX1_ratio_1 : cX1_ratio.data.toList.drop 24 = dktX1_ratio_1 := dk_seg dksX1_ratio_0 24 rfl rfl
theorem dX1_ratio_0 : decode cX1_ratio 0 = .ok (.aload_n 0, 1) := dk_42 (dk_at dksX1_ratio_0 0 rfl rfl)
theorem dX1_ratio_1 : decode cX1_ratio 1 = .ok (.iload_n 2, 1) := dk_28 (dk_at dksX1_ratio_0 1 rfl rfl)
theorem dX1_ratio_2 : decode cX1_ratio 2 = .ok (.invokevirtual 201, 3) := dk_182 0 201 (dk_at dksX1_ratio_0 2 rfl rfl)
theorem dX1_ratio_5 : decode cX1_ratio 5 = .ok (.istore_n 3, 1) := dk_62 (dk_at dksX1_ratio_0 5 rfl rfl)
theorem dX1_ratio_6 : decode cX1_ratio 6 = .ok (.iload_n 3, 1) := dk_29 (dk_at dksX1_ratio_0 6 rfl rfl)
theorem dX1_ratio_7 : decode cX1_ratio 7 = .ok (.ifCond .ne 7, 3) := dk_154 0 7 (dk_at dksX1_ratio_0 7 rfl rfl)
theorem dX1_ratio_10 : decode cX1_ratio 10 = .ok (.fconst 1, 1) := dk_12 (dk_at dksX1_ratio_0 10 rfl rfl)
theorem dX1_ratio_11 : decode cX1_ratio 11 = .ok (.goto 13, 3) := dk_167 0 13 (dk_at dksX1_ratio_0 11 rfl rfl)
theorem dX1_ratio_14 : decode cX1_ratio 14 = .ok (.aload_n 0, 1) := dk_42 (dk_at dksX1_ratio_0 14 rfl rfl)
theorem dX1_ratio_15 : decode cX1_ratio 15 = .ok (.aload_n 1, 1) := dk_43 (dk_at dksX1_ratio_0 15 rfl rfl)
theorem dX1_ratio_16 : decode cX1_ratio 16 = .ok (.iload_n 2, 1) := dk_28 (dk_at dksX1_ratio_0 16 rfl rfl)
theorem dX1_ratio_17 : decode cX1_ratio 17 = .ok (.invokevirtual 135, 3) := dk_182 0 135 (dk_at dksX1_ratio_0 17 rfl rfl)
theorem dX1_ratio_20 : decode cX1_ratio 20 = .ok (.i2f, 1) := dk_134 (dk_at dksX1_ratio_0 20 rfl rfl)
theorem dX1_ratio_21 : decode cX1_ratio 21 = .ok (.iload_n 3, 1) := dk_29 (dk_at dksX1_ratio_0 21 rfl rfl)
theorem dX1_ratio_22 : decode cX1_ratio 22 = .ok (.i2f, 1) := dk_134 (dk_at dksX1_ratio_0 22 rfl rfl)
theorem dX1_ratio_23 : decode cX1_ratio 23 = .ok (.fdiv, 1) := dk_110 (dk_at dksX1_ratio_0 23 rfl rfl)
theorem dX1_ratio_24 : decode cX1_ratio 24 = .ok (.freturn, 1) := dk_174 (dk_at dksX1_ratio_1 0 rfl rfl)
def dkwX1_drop_0 : List UInt8 := [12, 42, 43, 182, 0, 227, 102, 18, 231, 106, 139, 172]
abbrev dktX1_drop_0 : List UInt8 := dkwX1_drop_0 ++ []
theorem dksX1_drop_0 : cX1_drop.data.toList.drop 0 = dktX1_drop_0 := by decide +kernel
theorem dX1_drop_0 : decode cX1_drop 0 = .ok (.fconst 1, 1) := dk_12 (dk_at dksX1_drop_0 0 rfl rfl)
theorem dX1_drop_1 : decode cX1_drop 1 = .ok (.aload_n 0, 1) := dk_42 (dk_at dksX1_drop_0 1 rfl rfl)
theorem dX1_drop_2 : decode cX1_drop 2 = .ok (.aload_n 1, 1) := dk_43 (dk_at dksX1_drop_0 2 rfl rfl)
theorem dX1_drop_3 : decode cX1_drop 3 = .ok (.invokevirtual 227, 3) := dk_182 0 227 (dk_at dksX1_drop_0 3 rfl rfl)
theorem dX1_drop_6 : decode cX1_drop 6 = .ok (.fsub, 1) := dk_102 (dk_at dksX1_drop_0 6 rfl rfl)
theorem dX1_drop_7 : decode cX1_drop 7 = .ok (.ldc 231, 2) := dk_18 231 (dk_at dksX1_drop_0 7 rfl rfl)
theorem dX1_drop_9 : decode cX1_drop 9 = .ok (.fmul, 1) := dk_106 (dk_at dksX1_drop_0 9 rfl rfl)
theorem dX1_drop_10 : decode cX1_drop 10 = .ok (.f2i, 1) := dk_139 (dk_at dksX1_drop_0 10 rfl rfl)
theorem dX1_drop_11 : decode cX1_drop 11 = .ok (.ireturn, 1) := dk_172 (dk_at dksX1_drop_0 11 rfl rfl)
def dkwX1_mood_3 : List UInt8 := [175]
abbrev dktX1_mood_3 : List UInt8 := dkwX1_mood_3 ++ []
def dkwX1_mood_2 : List UInt8 := [20, 0, 235, 107, 42, 25, 4, 182, 0, 227, 141, 20, 0, 235, 107, 99, 72, 132, 5, 1, 167, 255, 210, 39]
abbrev dktX1_mood_2 : List UInt8 := dkwX1_mood_2 ++ dktX1_mood_3
def dkwX1_mood_1 : List UInt8 := [162, 0, 46, 42, 25, 4, 42, 180, 0, 57, 182, 0, 176, 25, 4, 42, 180, 0, 57, 182, 0, 170, 39]
abbrev dktX1_mood_1 : List UInt8 := dkwX1_mood_1 ++ dktX1_mood_2
def dkwX1_mood_0 : List UInt8 := [15, 72, 42, 42, 182, 0, 187, 182, 0, 232, 62, 42, 182, 0, 187, 58, 4, 3, 54, 5, 21, 5, 29]
abbrev dktX1_mood_0 : List UInt8 := dkwX1_mood_0 ++ dktX1_mood_1
theorem dksX1_mood_0 : cX1_mood.data.toList.drop 0 = dktX1_mood_0 := by decide +kernel
theorem dksX1_mood_1 : cX1_mood.data.toList.drop 23 = dktX1_mood_1 := dk_seg dksX1_mood_0 23 rfl rfl
theorem dksX1_mood_2 : cX1_mood.data.toList.drop 46 = dktX1_mood_2 := dk_seg dksX1_mood_1 23 rfl rfl
theorem dksX1_mood_3 : cX1_mood.data.toList.drop 70 = dktX1_mood_3 := dk_seg dksX1_mood_2 24 rfl rfl
theorem dX1_mood_0 : decode cX1_mood 0 = .ok (.dconst 1, 1) := dk_15 (dk_at dksX1_mood_0 0 rfl rfl)
theorem dX1_mood_1 : decode cX1_mood 1 = .ok (.dstore_n 1, 1) := dk_72 (dk_at dksX1_mood_0 1 rfl rfl)
theorem dX1_mood_2 : decode cX1_mood 2 = .ok (.aload_n 0, 1) := dk_42 (dk_at dksX1_mood_0 2 rfl rfl)
theorem dX1_mood_3 : decode cX1_mood 3 = .ok (.aload_n 0, 1) := dk_42 (dk_at dksX1_mood_0 3 rfl rfl)
theorem dX1_mood_4 : decode cX1_mood 4 = .ok (.invokevirtual 187, 3) := dk_182 0 187 (dk_at dksX1_mood_0 4 rfl rfl)
theorem dX1_mood_7 : decode cX1_mood 7 = .ok (.invokevirtual 232, 3) := dk_182 0 232 (dk_at dksX1_mood_0 7 rfl rfl)
theorem dX1_mood_10 : decode cX1_mood 10 = .ok (.istore_n 3, 1) := dk_62 (dk_at dksX1_mood_0 10 rfl rfl)
theorem dX1_mood_11 : decode cX1_mood 11 = .ok (.aload_n 0, 1) := dk_42 (dk_at dksX1_mood_0 11 rfl rfl)
theorem dX1_mood_12 : decode cX1_mood 12 = .ok (.invokevirtual 187, 3) := dk_182 0 187 (dk_at dksX1_mood_0 12 rfl rfl)
theorem dX1_mood_15 : decode cX1_mood 15 = .ok (.astore 4, 2) := dk_58 4 (dk_at dksX1_mood_0 15 rfl rfl)
theorem dX1_mood_17 : decode cX1_mood 17 = .ok (.iconst 0, 1) := dk_3 (dk_at dksX1_mood_0 17 rfl rfl)
theorem dX1_mood_18 : decode cX1_mood 18 = .ok (.istore 5, 2) := dk_54 5 (dk_at dksX1_mood_0 18 rfl rfl)
theorem dX1_mood_20 : decode cX1_mood 20 = .ok (.iload 5, 2) := dk_21 5 (dk_at dksX1_mood_0 20 rfl rfl)
theorem dX1_mood_22 : decode cX1_mood 22 = .ok (.iload_n 3, 1) := dk_29 (dk_at dksX1_mood_0 22 rfl rfl)
theorem dX1_mood_23 : decode cX1_mood 23 = .ok (.if_icmp .ge 46, 3) := dk_162 0 46 (dk_at dksX1_mood_1 0 rfl rfl)
theorem dX1_mood_26 : decode cX1_mood 26 = .ok (.aload_n 0, 1) := dk_42 (dk_at dksX1_mood_1 3 rfl rfl)
theorem dX1_mood_27 : decode cX1_mood 27 = .ok (.aload 4, 2) := dk_25 4 (dk_at dksX1_mood_1 4 rfl rfl)
theorem dX1_mood_29 : decode cX1_mood 29 = .ok (.aload_n 0, 1) := dk_42 (dk_at dksX1_mood_1 6 rfl rfl)
theorem dX1_mood_30 : decode cX1_mood 30 = .ok (.getfield 57, 3) := dk_180 0 57 (dk_at dksX1_mood_1 7 rfl rfl)
theorem dX1_mood_33 : decode cX1_mood 33 = .ok (.invokevirtual 176, 3) := dk_182 0 176 (dk_at dksX1_mood_1 10 rfl rfl)
theorem dX1_mood_36 : decode cX1_mood 36 = .ok (.aload 4, 2) := dk_25 4 (dk_at dksX1_mood_1 13 rfl rfl)
theorem dX1_mood_38 : decode cX1_mood 38 = .ok (.aload_n 0, 1) := dk_42 (dk_at dksX1_mood_1 15 rfl rfl)
theorem dX1_mood_39 : decode cX1_mood 39 = .ok (.getfield 57, 3) := dk_180 0 57 (dk_at dksX1_mood_1 16 rfl rfl)
theorem dX1_mood_42 : decode cX1_mood 42 = .ok (.invokevirtual 170, 3) := dk_182 0 170 (dk_at dksX1_mood_1 19 rfl rfl)
theorem dX1_mood_45 : decode cX1_mood 45 = .ok (.dload_n 1, 1) := dk_39 (dk_at dksX1_mood_1 22 rfl rfl)
theorem dX1_mood_46 : decode cX1_mood 46 = .ok (.ldc2_w 235, 3) := dk_20 0 235 (dk_at dksX1_mood_2 0 rfl rfl)
theorem dX1_mood_49 : decode cX1_mood 49 = .ok (.dmul, 1) := dk_107 (dk_at dksX1_mood_2 3 rfl rfl)
theorem dX1_mood_50 : decode cX1_mood 50 = .ok (.aload_n 0, 1) := dk_42 (dk_at dksX1_mood_2 4 rfl rfl)
theorem dX1_mood_51 : decode cX1_mood 51 = .ok (.aload 4, 2) := dk_25 4 (dk_at dksX1_mood_2 5 rfl rfl)
theorem dX1_mood_53 : decode cX1_mood 53 = .ok (.invokevirtual 227, 3) := dk_182 0 227 (dk_at dksX1_mood_2 7 rfl rfl)
theorem dX1_mood_56 : decode cX1_mood 56 = .ok (.f2d, 1) := dk_141 (dk_at dksX1_mood_2 10 rfl rfl)
theorem dX1_mood_57 : decode cX1_mood 57 = .ok (.ldc2_w 235, 3) := dk_20 0 235 (dk_at dksX1_mood_2 11 rfl rfl)
theorem dX1_mood_60 : decode cX1_mood 60 = .ok (.dmul, 1) := dk_107 (dk_at dksX1_mood_2 14 rfl rfl)
theorem dX1_mood_61 : decode cX1_mood 61 = .ok (.dadd, 1) := dk_99 (dk_at dksX1_mood_2 15 rfl rfl)
theorem dX1_mood_62 : decode cX1_mood 62 = .ok (.dstore_n 1, 1) := dk_72 (dk_at dksX1_mood_2 16 rfl rfl)
theorem dX1_mood_63 : decode cX1_mood 63 = .ok (.iinc 5 1, 3) := dk_132 5 1 (dk_at dksX1_mood_2 17 rfl rfl)
theorem dX1_mood_66 : decode cX1_mood 66 = .ok (.goto (-46), 3) := dk_167 255 210 (dk_at dksX1_mood_2 20 rfl rfl)
theorem dX1_mood_69 : decode cX1_mood 69 = .ok (.dload_n 1, 1) := dk_39 (dk_at dksX1_mood_2 23 rfl rfl)
theorem dX1_mood_70 : decode cX1_mood 70 = .ok (.dreturn, 1) := dk_175 (dk_at dksX1_mood_3 0 rfl rfl)
def dkwX1_text_9 : List UInt8 := [167, 255, 212, 43, 182, 1, 22, 176]
abbrev dktX1_text_9 : List UInt8 := dkwX1_text_9 ++ []
def dkwX1_text_8 : List UInt8 := [180, 0, 36, 28, 50, 180, 0, 98, 29, 50, 184, 1, 18, 132, 3, 1, 167, 255, 225, 132, 2, 1]
abbrev dktX1_text_8 : List UInt8 := dkwX1_text_8 ++ dktX1_text_9
def dkwX1_text_7 : List UInt8 := [28, 5, 162, 0, 45, 3, 62, 29, 42, 180, 0, 36, 28, 50, 180, 0, 95, 162, 0, 24, 43, 42]
abbrev dktX1_text_7 : List UInt8 := dkwX1_text_7 ++ dktX1_text_8
def dkwX1_text_6 : List UInt8 := [158, 0, 10, 42, 43, 28, 29, 182, 1, 14, 132, 3, 1, 167, 255, 227, 132, 2, 1, 167, 255, 211, 3, 61]
abbrev dktX1_text_6 : List UInt8 := dkwX1_text_6 ++ dktX1_text_7
def dkwX1_text_5 : List UInt8 := [180, 0, 74, 162, 0, 43, 3, 62, 29, 42, 180, 0, 74, 162, 0, 27, 42, 180, 0, 22, 28, 50, 29, 46]
abbrev dktX1_text_5 : List UInt8 := dkwX1_text_5 ++ dktX1_text_6
def dkwX1_text_4 : List UInt8 := [132, 3, 1, 167, 255, 227, 43, 16, 59, 182, 1, 1, 87, 132, 2, 1, 167, 255, 191, 3, 61, 28, 42]
abbrev dktX1_text_4 : List UInt8 := dkwX1_text_4 ++ dktX1_text_5
def dkwX1_text_3 : List UInt8 := [180, 0, 70, 162, 0, 27, 43, 16, 32, 182, 1, 1, 42, 180, 0, 19, 28, 50, 29, 46, 182, 1, 4, 87]
abbrev dktX1_text_3 : List UInt8 := dkwX1_text_3 ++ dktX1_text_4
def dkwX1_text_2 : List UInt8 := [42, 180, 0, 74, 162, 0, 63, 43, 19, 1, 12, 42, 180, 0, 16, 28, 50, 184, 1, 9, 3, 62, 29, 42]
abbrev dktX1_text_2 : List UInt8 := dkwX1_text_2 ++ dktX1_text_3
def dkwX1_text_1 : List UInt8 := [180, 0, 11, 28, 50, 184, 1, 9, 43, 16, 59, 182, 1, 1, 87, 132, 2, 1, 167, 255, 225, 3, 61, 28]
abbrev dktX1_text_1 : List UInt8 := dkwX1_text_1 ++ dktX1_text_2
def dkwX1_text_0 : List UInt8 := [187, 0, 252, 89, 183, 1, 7, 76, 3, 61, 28, 42, 180, 0, 70, 162, 0, 29, 43, 19, 1, 8, 42]
abbrev dktX1_text_0 : List UInt8 := dkwX1_text_0 ++ dktX1_text_1
theorem dksX1_text_0 : cX1_text.data.toList.drop 0 = dktX1_text_0 := by decide +kernel
theorem dksX1_text_1 : cX1_text.data.toList.drop 23 = dktX1_text_1 := dk_seg dksX1_text_0 23 rfl rfl
theorem dksX1_text_2 : cX1_text.data.toList.drop 47 = dktX1_text_2 := dk_seg dksX1_text_1 24 rfl rfl
theorem dksX1_text_3 : cX1_text.data.toList.drop 71 = dktX1_text_3 := dk_seg dksX1_text_2 24 rfl rfl
theorem dksX1_text_4 : cX1_text.data.toList.drop 95 = dktX1_text_4 := dk_seg dksX1_text_3 24 rfl rfl
theorem dksX1_text_5 : cX1_text.data.toList.drop 118 = dktX1_text_5 := dk_seg dksX1_text_4 23 rfl rfl
theorem dksX1_text_6 : cX1_text.data.toList.drop 142 = dktX1_text_6 := dk_seg dksX1_text_5 24 rfl rfl
theorem dksX1_text_7 : cX1_text.data.toList.drop 166 = dktX1_text_7 := dk_seg dksX1_text_6 24 rfl rfl
theorem dksX1_text_8 : cX1_text.data.toList.drop 188 = dktX1_text_8 := dk_seg dksX1_text_7 22 rfl rfl
theorem dksX1_text_9 : cX1_text.data.toList.drop 210 = dktX1_text_9 := dk_seg dksX1_text_8 22 rfl rfl
theorem dX1_text_0 : decode cX1_text 0 = .ok (.new 252, 3) := dk_187 0 252 (dk_at dksX1_text_0 0 rfl rfl)
theorem dX1_text_3 : decode cX1_text 3 = .ok (.dup, 1) := dk_89 (dk_at dksX1_text_0 3 rfl rfl)
theorem dX1_text_4 : decode cX1_text 4 = .ok (.invokespecial 263, 3) := dk_183 1 7 (dk_at dksX1_text_0 4 rfl rfl)
theorem dX1_text_7 : decode cX1_text 7 = .ok (.astore_n 1, 1) := dk_76 (dk_at dksX1_text_0 7 rfl rfl)
theorem dX1_text_8 : decode cX1_text 8 = .ok (.iconst 0, 1) := dk_3 (dk_at dksX1_text_0 8 rfl rfl)
theorem dX1_text_9 : decode cX1_text 9 = .ok (.istore_n 2, 1) := dk_61 (dk_at dksX1_text_0 9 rfl rfl)
theorem dX1_text_10 : decode cX1_text 10 = .ok (.iload_n 2, 1) := dk_28 (dk_at dksX1_text_0 10 rfl rfl)
theorem dX1_text_11 : decode cX1_text 11 = .ok (.aload_n 0, 1) := dk_42 (dk_at dksX1_text_0 11 rfl rfl)
theorem dX1_text_12 : decode cX1_text 12 = .ok (.getfield 70, 3) := dk_180 0 70 (dk_at dksX1_text_0 12 rfl rfl)
theorem dX1_text_15 : decode cX1_text 15 = .ok (.if_icmp .ge 29, 3) := dk_162 0 29 (dk_at dksX1_text_0 15 rfl rfl)
theorem dX1_text_18 : decode cX1_text 18 = .ok (.aload_n 1, 1) := dk_43 (dk_at dksX1_text_0 18 rfl rfl)
theorem dX1_text_19 : decode cX1_text 19 = .ok (.ldc_w 264, 3) := dk_19 1 8 (dk_at dksX1_text_0 19 rfl rfl)
theorem dX1_text_22 : decode cX1_text 22 = .ok (.aload_n 0, 1) := dk_42 (dk_at dksX1_text_0 22 rfl rfl)
theorem dX1_text_23 : decode cX1_text 23 = .ok (.getfield 11, 3) := dk_180 0 11 (dk_at dksX1_text_1 0 rfl rfl)
theorem dX1_text_26 : decode cX1_text 26 = .ok (.iload_n 2, 1) := dk_28 (dk_at dksX1_text_1 3 rfl rfl)
theorem dX1_text_27 : decode cX1_text 27 = .ok (.aaload, 1) := dk_50 (dk_at dksX1_text_1 4 rfl rfl)
theorem dX1_text_28 : decode cX1_text 28 = .ok (.invokestatic 265, 3) := dk_184 1 9 (dk_at dksX1_text_1 5 rfl rfl)
theorem dX1_text_31 : decode cX1_text 31 = .ok (.aload_n 1, 1) := dk_43 (dk_at dksX1_text_1 8 rfl rfl)
theorem dX1_text_32 : decode cX1_text 32 = .ok (.bipush 59, 2) := dk_16 59 (dk_at dksX1_text_1 9 rfl rfl)
theorem dX1_text_34 : decode cX1_text 34 = .ok (.invokevirtual 257, 3) := dk_182 1 1 (dk_at dksX1_text_1 11 rfl rfl)
theorem dX1_text_37 : decode cX1_text 37 = .ok (.pop, 1) := dk_87 (dk_at dksX1_text_1 14 rfl rfl)
theorem dX1_text_38 : decode cX1_text 38 = .ok (.iinc 2 1, 3) := dk_132 2 1 (dk_at dksX1_text_1 15 rfl rfl)
theorem dX1_text_41 : decode cX1_text 41 = .ok (.goto (-31), 3) := dk_167 255 225 (dk_at dksX1_text_1 18 rfl rfl)
theorem dX1_text_44 : decode cX1_text 44 = .ok (.iconst 0, 1) := dk_3 (dk_at dksX1_text_1 21 rfl rfl)
theorem dX1_text_45 : decode cX1_text 45 = .ok (.istore_n 2, 1) := dk_61 (dk_at dksX1_text_1 22 rfl rfl)
theorem dX1_text_46 : decode cX1_text 46 = .ok (.iload_n 2, 1) := dk_28 (dk_at dksX1_text_1 23 rfl rfl)
theorem dX1_text_47 : decode cX1_text 47 = .ok (.aload_n 0, 1) := dk_42 (dk_at dksX1_text_2 0 rfl rfl)
theorem dX1_text_48 : decode cX1_text 48 = .ok (.getfield 74, 3) := dk_180 0 74 (dk_at dksX1_text_2 1 rfl rfl)
theorem dX1_text_51 : decode cX1_text 51 = .ok (.if_icmp .ge 63, 3) := dk_162 0 63 (dk_at dksX1_text_2 4 rfl rfl)
theorem dX1_text_54 : decode cX1_text 54 = .ok (.aload_n 1, 1) := dk_43 (dk_at dksX1_text_2 7 rfl rfl)
theorem dX1_text_55 : decode cX1_text 55 = .ok (.ldc_w 268, 3) := dk_19 1 12 (dk_at dksX1_text_2 8 rfl rfl)
theorem dX1_text_58 : decode cX1_text 58 = .ok (.aload_n 0, 1) := dk_42 (dk_at dksX1_text_2 11 rfl rfl)
theorem dX1_text_59 : decode cX1_text 59 = .ok (.getfield 16, 3) := dk_180 0 16 (dk_at dksX1_text_2 12 rfl rfl)
theorem dX1_text_62 : decode cX1_text 62 = .ok (.iload_n 2, 1) := dk_28 (dk_at dksX1_text_2 15 rfl rfl)
theorem dX1_text_63 : decode cX1_text 63 = .ok (.aaload, 1) := dk_50 (dk_at dksX1_text_2 16 rfl rfl)
theorem dX1_text_64 : decode cX1_text 64 = .ok (.invokestatic 265, 3) := dk_184 1 9 (dk_at dksX1_text_2 17 rfl rfl)
theorem dX1_text_67 : decode cX1_text 67 = .ok (.iconst 0, 1) := dk_3 (dk_at dksX1_text_2 20 rfl rfl)
theorem dX1_text_68 : decode cX1_text 68 = .ok (.istore_n 3, 1) := dk_62 (dk_at dksX1_text_2 21 rfl rfl)
theorem dX1_text_69 : decode cX1_text 69 = .ok (.iload_n 3, 1) := dk_29 (dk_at dksX1_text_2 22 rfl rfl)
theorem dX1_text_70 : decode cX1_text 70 = .ok (.aload_n 0, 1) := dk_42 (dk_at dksX1_text_2 23 rfl rfl)
theorem dX1_text_71 : decode cX1_text 71 = .ok (.getfield 70, 3) := dk_180 0 70 (dk_at dksX1_text_3 0 rfl rfl)
theorem dX1_text_74 : decode cX1_text 74 = .ok (.if_icmp .ge 27, 3) := dk_162 0 27 (dk_at dksX1_text_3 3 rfl rfl)
theorem dX1_text_77 : decode cX1_text 77 = .ok (.aload_n 1, 1) := dk_43 (dk_at dksX1_text_3 6 rfl rfl)
theorem dX1_text_78 : decode cX1_text 78 = .ok (.bipush 32, 2) := dk_16 32 (dk_at dksX1_text_3 7 rfl rfl)
theorem dX1_text_80 : decode cX1_text 80 = .ok (.invokevirtual 257, 3) := dk_182 1 1 (dk_at dksX1_text_3 9 rfl rfl)
theorem dX1_text_83 : decode cX1_text 83 = .ok (.aload_n 0, 1) := dk_42 (dk_at dksX1_text_3 12 rfl rfl)
theorem dX1_text_84 : decode cX1_text 84 = .ok (.getfield 19, 3) := dk_180 0 19 (dk_at dksX1_text_3 13 rfl rfl)
theorem dX1_text_87 : decode cX1_text 87 = .ok (.iload_n 2, 1) := dk_28 (dk_at dksX1_text_3 16 rfl rfl)
theorem dX1_text_88 : decode cX1_text 88 = .ok (.aaload, 1) := dk_50 (dk_at dksX1_text_3 17 rfl rfl)
theorem dX1_text_89 : decode cX1_text 89 = .ok (.iload_n 3, 1) := dk_29 (dk_at dksX1_text_3 18 rfl rfl)
theorem dX1_text_90 : decode cX1_text 90 = .ok (.iaload, 1) := dk_46 (dk_at dksX1_text_3 19 rfl rfl)
theorem dX1_text_91 : decode cX1_text 91 = .ok (.invokevirtual 260, 3) := dk_182 1 4 (dk_at dksX1_text_3 20 rfl rfl)
theorem dX1_text_94 : decode cX1_text 94 = .ok (.pop, 1) := dk_87 (dk_at dksX1_text_3 23 rfl rfl)
theorem dX1_text_95 : decode cX1_text 95 = .ok (.iinc 3 1, 3) := dk_132 3 1 (dk_at dksX1_text_4 0 rfl rfl)
theorem dX1_text_98 : decode cX1_text 98 = .ok (.goto (-29), 3) := dk_167 255 227 (dk_at dksX1_text_4 3 rfl rfl)
theorem dX1_text_101 : decode cX1_text 101 = .ok (.aload_n 1, 1) := dk_43 (dk_at dksX1_text_4 6 rfl rfl)
theorem dX1_text_102 : decode cX1_text 102 = .ok (.bipush 59, 2) := dk_16 59 (dk_at dksX1_text_4 7 rfl rfl)
theorem dX1_text_104 : decode cX1_text 104 = .ok (.invokevirtual 257, 3) := dk_182 1 1 (dk_at dksX1_text_4 9 rfl rfl)
theorem dX1_text_107 : decode cX1_text 107 = .ok (.pop, 1) := dk_87 (dk_at dksX1_text_4 12 rfl rfl)
theorem dX1_text_108 : decode cX1_text 108 = .ok (.iinc 2 1, 3) := dk_132 2 1 (dk_at dksX1_text_4 13 rfl rfl)
theorem dX1_text_111 : decode cX1_text 111 = .ok (.goto (-65), 3) := dk_167 255 191 (dk_at dksX1_text_4 16 rfl rfl)
theorem dX1_text_114 : decode cX1_text 114 = .ok (.iconst 0, 1) := dk_3 (dk_at dksX1_text_4 19 rfl rfl)
theorem dX1_text_115 : decode cX1_text 115 = .ok (.istore_n 2, 1) := dk_61 (dk_at dksX1_text_4 20 rfl rfl)
theorem dX1_text_116 : decode cX1_text 116 = .ok (.iload_n 2, 1) := dk_28 (dk_at dksX1_text_4 21 rfl rfl)
theorem dX1_text_117 : decode cX1_text 117 = .ok (.aload_n 0, 1) := dk_42 (dk_at dksX1_text_4 22 rfl rfl)
theorem dX1_text_118 : decode cX1_text 118 = .ok (.getfield 74, 3) := dk_180 0 74 (dk_at dksX1_text_5 0 rfl rfl)
theorem dX1_text_121 : decode cX1_text 121 = .ok (.if_icmp .ge 43, 3) := dk_162 0 43 (dk_at dksX1_text_5 3 rfl rfl)
theorem dX1_text_124 : decode cX1_text 124 = .ok (.iconst 0, 1) := dk_3 (dk_at dksX1_text_5 6 rfl rfl)
theorem dX1_text_125 : decode cX1_text 125 = .ok (.istore_n 3, 1) := dk_62 (dk_at dksX1_text_5 7 rfl rfl)
theorem dX1_text_126 : decode cX1_text 126 = .ok (.iload_n 3, 1) := dk_29 (dk_at dksX1_text_5 8 rfl rfl)
theorem dX1_text_127 : decode cX1_text 127 = .ok (.aload_n 0, 1) := dk_42 (dk_at dksX1_text_5 9 rfl rfl)
theorem dX1_text_128 : decode cX1_text 128 = .ok (.getfield 74, 3) := dk_180 0 74 (dk_at dksX1_text_5 10 rfl rfl)
theorem dX1_text_131 : decode cX1_text 131 = .ok (.if_icmp .ge 27, 3) := dk_162 0 27 (dk_at dksX1_text_5 13 rfl rfl)
theorem dX1_text_134 : decode cX1_text 134 = .ok (.aload_n 0, 1) := dk_42 (dk_at dksX1_text_5 16 rfl rfl)
theorem dX1_text_135 : decode cX1_text 135 = .ok (.getfield 22, 3) := dk_180 0 22 (dk_at dksX1_text_5 17 rfl rfl)
theorem dX1_text_138 : decode cX1_text 138 = .ok (.iload_n 2, 1) := dk_28 (dk_at dksX1_text_5 20 rfl rfl)
theorem dX1_text_139 : decode cX1_text 139 = .ok (.aaload, 1) := dk_50 (dk_at dksX1_text_5 21 rfl rfl)
theorem dX1_text_140 : decode cX1_text 140 = .ok (.iload_n 3, 1) := dk_29 (dk_at dksX1_text_5 22 rfl rfl)
theorem dX1_text_141 : decode cX1_text 141 = .ok (.iaload, 1) := dk_46 (dk_at dksX1_text_5 23 rfl rfl)
theorem dX1_text_142 : decode cX1_text 142 = .ok (.ifCond .le 10, 3) := dk_158 0 10 (dk_at dksX1_text_6 0 rfl rfl)
theorem dX1_text_145 : decode cX1_text 145 = .ok (.aload_n 0, 1) := dk_42 (dk_at dksX1_text_6 3 rfl rfl)
theorem dX1_text_146 : decode cX1_text 146 = .ok (.aload_n 1, 1) := dk_43 (dk_at dksX1_text_6 4 rfl rfl)
theorem dX1_text_147 : decode cX1_text 147 = .ok (.iload_n 2, 1) := dk_28 (dk_at dksX1_text_6 5 rfl rfl)
theorem dX1_text_148 : decode cX1_text 148 = .ok (.iload_n 3, 1) := dk_29 (dk_at dksX1_text_6 6 rfl rfl)
theorem dX1_text_149 : decode cX1_text 149 = .ok (.invokevirtual 270, 3) := dk_182 1 14 (dk_at dksX1_text_6 7 rfl rfl)
theorem dX1_text_152 : decode cX1_text 152 = .ok (.iinc 3 1, 3) := dk_132 3 1 (dk_at dksX1_text_6 10 rfl rfl)
theorem dX1_text_155 : decode cX1_text 155 = .ok (.goto (-29), 3) := dk_167 255 227 (dk_at dksX1_text_6 13 rfl rfl)
theorem dX1_text_158 : decode cX1_text 158 = .ok (.iinc 2 1, 3) := dk_132 2 1 (dk_at dksX1_text_6 16 rfl rfl)
theorem dX1_text_161 : decode cX1_text 161 = .ok (.goto (-45), 3) := dk_167 255 211 (dk_at dksX1_text_6 19 rfl rfl)
theorem dX1_text_164 : decode cX1_text 164 = .ok (.iconst 0, 1) := dk_3 (dk_at dksX1_text_6 22 rfl rfl)
theorem dX1_text_165 : decode cX1_text 165 = .ok (.istore_n 2, 1) := dk_61 (dk_at dksX1_text_6 23 rfl rfl)
theorem dX1_text_166 : decode cX1_text 166 = .ok (.iload_n 2, 1) := dk_28 (dk_at dksX1_text_7 0 rfl rfl)
theorem dX1_text_167 : decode cX1_text 167 = .ok (.iconst 2, 1) := dk_5 (dk_at dksX1_text_7 1 rfl rfl)
theorem dX1_text_168 : decode cX1_text 168 = .ok (.if_icmp .ge 45, 3) := dk_162 0 45 (dk_at dksX1_text_7 2 rfl rfl)
theorem dX1_text_171 : decode cX1_text 171 = .ok (.iconst 0, 1) := dk_3 (dk_at dksX1_text_7 5 rfl rfl)
theorem dX1_text_172 : decode cX1_text 172 = .ok (.istore_n 3, 1) := dk_62 (dk_at dksX1_text_7 6 rfl rfl)
theorem dX1_text_173 : decode cX1_text 173 = .ok (.iload_n 3, 1) := dk_29 (dk_at dksX1_text_7 7 rfl rfl)
theorem dX1_text_174 : decode cX1_text 174 = .ok (.aload_n 0, 1) := dk_42 (dk_at dksX1_text_7 8 rfl rfl)
theorem dX1_text_175 : decode cX1_text 175 = .ok (.getfield 36, 3) := dk_180 0 36 (dk_at dksX1_text_7 9 rfl rfl)
theorem dX1_text_178 : decode cX1_text 178 = .ok (.iload_n 2, 1) := dk_28 (dk_at dksX1_text_7 12 rfl rfl)
theorem dX1_text_179 : decode cX1_text 179 = .ok (.aaload, 1) := dk_50 (dk_at dksX1_text_7 13 rfl rfl)
theorem dX1_text_180 : decode cX1_text 180 = .ok (.getfield 95, 3) := dk_180 0 95 (dk_at dksX1_text_7 14 rfl rfl)
theorem dX1_text_183 : decode cX1_text 183 = .ok (.if_icmp .ge 24, 3) := dk_162 0 24 (dk_at dksX1_text_7 17 rfl rfl)
theorem dX1_text_186 : decode cX1_text 186 = .ok (.aload_n 1, 1) := dk_43 (dk_at dksX1_text_7 20 rfl rfl)
theorem dX1_text_187 : decode cX1_text 187 = .ok (.aload_n 0, 1) := dk_42 (dk_at dksX1_text_7 21 rfl rfl)
theorem dX1_text_188 : decode cX1_text 188 = .ok (.getfield 36, 3) := dk_180 0 36 (dk_at dksX1_text_8 0 rfl rfl)
theorem dX1_text_191 : decode cX1_text 191 = .ok (.iload_n 2, 1) := dk_28 (dk_at dksX1_text_8 3 rfl rfl)
theorem dX1_text_192 : decode cX1_text 192 = .ok (.aaload, 1) := dk_50 (dk_at dksX1_text_8 4 rfl rfl)
theorem dX1_text_193 : decode cX1_text 193 = .ok (.getfield 98, 3) := dk_180 0 98 (dk_at dksX1_text_8 5 rfl rfl)
theorem dX1_text_196 : decode cX1_text 196 = .ok (.iload_n 3, 1) := dk_29 (dk_at dksX1_text_8 8 rfl rfl)
theorem dX1_text_197 : decode cX1_text 197 = .ok (.aaload, 1) := dk_50 (dk_at dksX1_text_8 9 rfl rfl)
theorem dX1_text_198 : decode cX1_text 198 = .ok (.invokestatic 274, 3) := dk_184 1 18 (dk_at dksX1_text_8 10 rfl rfl)
theorem dX1_text_201 : decode cX1_text 201 = .ok (.iinc 3 1, 3) := dk_132 3 1 (dk_at dksX1_text_8 13 rfl rfl)
theorem dX1_text_204 : decode cX1_text 204 = .ok (.goto (-31), 3) := dk_167 255 225 (dk_at dksX1_text_8 16 rfl rfl)
theorem dX1_text_207 : decode cX1_text 207 = .ok (.iinc 2 1, 3) := dk_132 2 1 (dk_at dksX1_text_8 19 rfl rfl)
theorem dX1_text_210 : decode cX1_text 210 = .ok (.goto (-44), 3) := dk_167 255 212 (dk_at dksX1_text_9 0 rfl rfl)
theorem dX1_text_213 : decode cX1_text 213 = .ok (.aload_n 1, 1) := dk_43 (dk_at dksX1_text_9 3 rfl rfl)
theorem dX1_text_214 : decode cX1_text 214 = .ok (.invokevirtual 278, 3) := dk_182 1 22 (dk_at dksX1_text_9 4 rfl rfl)
theorem dX1_text_217 : decode cX1_text 217 = .ok (.areturn, 1) := dk_176 (dk_at dksX1_text_9 7 rfl rfl)
def dkwX1_row_1 : List UInt8 := [21, 5, 46, 54, 6, 42, 16, 32, 182, 1, 1, 21, 6, 182, 1, 4, 87, 132, 5, 1, 167, 255, 228, 177]
abbrev dktX1_row_1 : List UInt8 := dkwX1_row_1 ++ []
def dkwX1_row_0 : List UInt8 := [42, 43, 182, 0, 251, 87, 44, 78, 45, 190, 54, 4, 3, 54, 5, 21, 5, 21, 4, 162, 0, 27, 45]
abbrev dktX1_row_0 : List UInt8 := dkwX1_row_0 ++ dktX1_row_1
theorem dksX1_row_0 : cX1_row.data.toList.drop 0 = dktX1_row_0 := by decide +kernel
theorem dksX1_row_1 : cX1_row.data.toList.drop 23 = dktX1_row_1 := dk_seg dksX1_row_0 23 rfl rfl
theorem dX1_row_0 : decode cX1_row 0 = .ok (.aload_n 0, 1) := dk_42 (dk_at dksX1_row_0 0 rfl rfl)
theorem dX1_row_1 : decode cX1_row 1 = .ok (.aload_n 1, 1) := dk_43 (dk_at dksX1_row_0 1 rfl rfl)
theorem dX1_row_2 : decode cX1_row 2 = .ok (.invokevirtual 251, 3) := dk_182 0 251 (dk_at dksX1_row_0 2 rfl rfl)
theorem dX1_row_5 : decode cX1_row 5 = .ok (.pop, 1) := dk_87 (dk_at dksX1_row_0 5 rfl rfl)
theorem dX1_row_6 : decode cX1_row 6 = .ok (.aload_n 2, 1) := dk_44 (dk_at dksX1_row_0 6 rfl rfl)
theorem dX1_row_7 : decode cX1_row 7 = .ok (.astore_n 3, 1) := dk_78 (dk_at dksX1_row_0 7 rfl rfl)
theorem dX1_row_8 : decode cX1_row 8 = .ok (.aload_n 3, 1) := dk_45 (dk_at dksX1_row_0 8 rfl rfl)
theorem dX1_row_9 : decode cX1_row 9 = .ok (.arraylength, 1) := dk_190 (dk_at dksX1_row_0 9 rfl rfl)
theorem dX1_row_10 : decode cX1_row 10 = .ok (.istore 4, 2) := dk_54 4 (dk_at dksX1_row_0 10 rfl rfl)
theorem dX1_row_12 : decode cX1_row 12 = .ok (.iconst 0, 1) := dk_3 (dk_at dksX1_row_0 12 rfl rfl)
theorem dX1_row_13 : decode cX1_row 13 = .ok (.istore 5, 2) := dk_54 5 (dk_at dksX1_row_0 13 rfl rfl)
theorem dX1_row_15 : decode cX1_row 15 = .ok (.iload 5, 2) := dk_21 5 (dk_at dksX1_row_0 15 rfl rfl)
theorem dX1_row_17 : decode cX1_row 17 = .ok (.iload 4, 2) := dk_21 4 (dk_at dksX1_row_0 17 rfl rfl)
theorem dX1_row_19 : decode cX1_row 19 = .ok (.if_icmp .ge 27, 3) := dk_162 0 27 (dk_at dksX1_row_0 19 rfl rfl)
theorem dX1_row_22 : decode cX1_row 22 = .ok (.aload_n 3, 1) := dk_45 (dk_at dksX1_row_0 22 rfl rfl)
theorem dX1_row_23 : decode cX1_row 23 = .ok (.iload 5, 2) := dk_21 5 (dk_at dksX1_row_1 0 rfl rfl)
theorem dX1_row_25 : decode cX1_row 25 = .ok (.iaload, 1) := dk_46 (dk_at dksX1_row_1 2 rfl rfl)
theorem dX1_row_26 : decode cX1_row 26 = .ok (.istore 6, 2) := dk_54 6 (dk_at dksX1_row_1 3 rfl rfl)
theorem dX1_row_28 : decode cX1_row 28 = .ok (.aload_n 0, 1) := dk_42 (dk_at dksX1_row_1 5 rfl rfl)
theorem dX1_row_29 : decode cX1_row 29 = .ok (.bipush 32, 2) := dk_16 32 (dk_at dksX1_row_1 6 rfl rfl)
theorem dX1_row_31 : decode cX1_row 31 = .ok (.invokevirtual 257, 3) := dk_182 1 1 (dk_at dksX1_row_1 8 rfl rfl)
theorem dX1_row_34 : decode cX1_row 34 = .ok (.iload 6, 2) := dk_21 6 (dk_at dksX1_row_1 11 rfl rfl)
theorem dX1_row_36 : decode cX1_row 36 = .ok (.invokevirtual 260, 3) := dk_182 1 4 (dk_at dksX1_row_1 13 rfl rfl)
theorem dX1_row_39 : decode cX1_row 39 = .ok (.pop, 1) := dk_87 (dk_at dksX1_row_1 16 rfl rfl)
theorem dX1_row_40 : decode cX1_row 40 = .ok (.iinc 5 1, 3) := dk_132 5 1 (dk_at dksX1_row_1 17 rfl rfl)
theorem dX1_row_43 : decode cX1_row 43 = .ok (.goto (-28), 3) := dk_167 255 228 (dk_at dksX1_row_1 20 rfl rfl)
theorem dX1_row_46 : decode cX1_row 46 = .ok (.return_, 1) := dk_177 (dk_at dksX1_row_1 23 rfl rfl)
def dkwX1_loans_1 : List UInt8 := [46, 79, 184, 1, 9, 43, 16, 59, 182, 1, 1, 87, 177]
abbrev dktX1_loans_1 : List UInt8 := dkwX1_loans_1 ++ []
def dkwX1_loans_0 : List UInt8 := [43, 19, 1, 26, 6, 188, 10, 89, 3, 28, 79, 89, 4, 29, 79, 89, 5, 42, 180, 0, 22, 28, 50, 29]
abbrev dktX1_loans_0 : List UInt8 := dkwX1_loans_0 ++ dktX1_loans_1
theorem dksX1_loans_0 : cX1_loans.data.toList.drop 0 = dktX1_loans_0 := by decide +kernel
theorem dksX1_loans_1 : cX1_loans.data.toList.drop 24 = dktX1_loans_1 := dk_seg dksX1_loans_0 24 rfl rfl
theorem dX1_loans_0 : decode cX1_loans 0 = .ok (.aload_n 1, 1) := dk_43 (dk_at dksX1_loans_0 0 rfl rfl)
theorem dX1_loans_1 : decode cX1_loans 1 = .ok (.ldc_w 282, 3) := dk_19 1 26 (dk_at dksX1_loans_0 1 rfl rfl)
theorem dX1_loans_4 : decode cX1_loans 4 = .ok (.iconst 3, 1) := dk_6 (dk_at dksX1_loans_0 4 rfl rfl)
theorem dX1_loans_5 : decode cX1_loans 5 = .ok (.newarray .int, 2) := dk_188_10 (dk_at dksX1_loans_0 5 rfl rfl)
theorem dX1_loans_7 : decode cX1_loans 7 = .ok (.dup, 1) := dk_89 (dk_at dksX1_loans_0 7 rfl rfl)
theorem dX1_loans_8 : decode cX1_loans 8 = .ok (.iconst 0, 1) := dk_3 (dk_at dksX1_loans_0 8 rfl rfl)
theorem dX1_loans_9 : decode cX1_loans 9 = .ok (.iload_n 2, 1) := dk_28 (dk_at dksX1_loans_0 9 rfl rfl)
theorem dX1_loans_10 : decode cX1_loans 10 = .ok (.iastore, 1) := dk_79 (dk_at dksX1_loans_0 10 rfl rfl)
theorem dX1_loans_11 : decode cX1_loans 11 = .ok (.dup, 1) := dk_89 (dk_at dksX1_loans_0 11 rfl rfl)
theorem dX1_loans_12 : decode cX1_loans 12 = .ok (.iconst 1, 1) := dk_4 (dk_at dksX1_loans_0 12 rfl rfl)
theorem dX1_loans_13 : decode cX1_loans 13 = .ok (.iload_n 3, 1) := dk_29 (dk_at dksX1_loans_0 13 rfl rfl)
theorem dX1_loans_14 : decode cX1_loans 14 = .ok (.iastore, 1) := dk_79 (dk_at dksX1_loans_0 14 rfl rfl)
theorem dX1_loans_15 : decode cX1_loans 15 = .ok (.dup, 1) := dk_89 (dk_at dksX1_loans_0 15 rfl rfl)
theorem dX1_loans_16 : decode cX1_loans 16 = .ok (.iconst 2, 1) := dk_5 (dk_at dksX1_loans_0 16 rfl rfl)
theorem dX1_loans_17 : decode cX1_loans 17 = .ok (.aload_n 0, 1) := dk_42 (dk_at dksX1_loans_0 17 rfl rfl)
theorem dX1_loans_18 : decode cX1_loans 18 = .ok (.getfield 22, 3) := dk_180 0 22 (dk_at dksX1_loans_0 18 rfl rfl)
theorem dX1_loans_21 : decode cX1_loans 21 = .ok (.iload_n 2, 1) := dk_28 (dk_at dksX1_loans_0 21 rfl rfl)
theorem dX1_loans_22 : decode cX1_loans 22 = .ok (.aaload, 1) := dk_50 (dk_at dksX1_loans_0 22 rfl rfl)
theorem dX1_loans_23 : decode cX1_loans 23 = .ok (.iload_n 3, 1) := dk_29 (dk_at dksX1_loans_0 23 rfl rfl)
theorem dX1_loans_24 : decode cX1_loans 24 = .ok (.iaload, 1) := dk_46 (dk_at dksX1_loans_1 0 rfl rfl)
theorem dX1_loans_25 : decode cX1_loans 25 = .ok (.iastore, 1) := dk_79 (dk_at dksX1_loans_1 1 rfl rfl)
theorem dX1_loans_26 : decode cX1_loans 26 = .ok (.invokestatic 265, 3) := dk_184 1 9 (dk_at dksX1_loans_1 2 rfl rfl)
theorem dX1_loans_29 : decode cX1_loans 29 = .ok (.aload_n 1, 1) := dk_43 (dk_at dksX1_loans_1 5 rfl rfl)
theorem dX1_loans_30 : decode cX1_loans 30 = .ok (.bipush 59, 2) := dk_16 59 (dk_at dksX1_loans_1 6 rfl rfl)
theorem dX1_loans_32 : decode cX1_loans 32 = .ok (.invokevirtual 257, 3) := dk_182 1 1 (dk_at dksX1_loans_1 8 rfl rfl)
theorem dX1_loans_35 : decode cX1_loans 35 = .ok (.pop, 1) := dk_87 (dk_at dksX1_loans_1 11 rfl rfl)
theorem dX1_loans_36 : decode cX1_loans 36 = .ok (.return_, 1) := dk_177 (dk_at dksX1_loans_1 12 rfl rfl)
def dkwX1_rules_1 : List UInt8 := [180, 0, 102, 79, 89, 4, 43, 180, 1, 32, 79, 184, 1, 9, 42, 16, 59, 182, 1, 1, 87, 177]
abbrev dktX1_rules_1 : List UInt8 := dkwX1_rules_1 ++ []
def dkwX1_rules_0 : List UInt8 := [42, 43, 182, 1, 27, 154, 0, 9, 19, 1, 30, 167, 0, 6, 19, 1, 31, 5, 188, 10, 89, 3, 43]
abbrev dktX1_rules_0 : List UInt8 := dkwX1_rules_0 ++ dktX1_rules_1
theorem dksX1_rules_0 : cX1_rules.data.toList.drop 0 = dktX1_rules_0 := by decide +kernel
theorem dksX1_rules_1 : cX1_rules.data.toList.drop 23 = dktX1_rules_1 := dk_seg dksX1_rules_0 23 rfl rfl
theorem dX1_rules_0 : decode cX1_rules 0 = .ok (.aload_n 0, 1) := dk_42 (dk_at dksX1_rules_0 0 rfl rfl)
theorem dX1_rules_1 : decode cX1_rules 1 = .ok (.aload_n 1, 1) := dk_43 (dk_at dksX1_rules_0 1 rfl rfl)
theorem dX1_rules_2 : decode cX1_rules 2 = .ok (.invokevirtual 283, 3) := dk_182 1 27 (dk_at dksX1_rules_0 2 rfl rfl)
theorem dX1_rules_5 : decode cX1_rules 5 = .ok (.ifCond .ne 9, 3) := dk_154 0 9 (dk_at dksX1_rules_0 5 rfl rfl)
theorem dX1_rules_8 : decode cX1_rules 8 = .ok (.ldc_w 286, 3) := dk_19 1 30 (dk_at dksX1_rules_0 8 rfl rfl)
theorem dX1_rules_11 : decode cX1_rules 11 = .ok (.goto 6, 3) := dk_167 0 6 (dk_at dksX1_rules_0 11 rfl rfl)
theorem dX1_rules_14 : decode cX1_rules 14 = .ok (.ldc_w 287, 3) := dk_19 1 31 (dk_at dksX1_rules_0 14 rfl rfl)
theorem dX1_rules_17 : decode cX1_rules 17 = .ok (.iconst 2, 1) := dk_5 (dk_at dksX1_rules_0 17 rfl rfl)
theorem dX1_rules_18 : decode cX1_rules 18 = .ok (.newarray .int, 2) := dk_188_10 (dk_at dksX1_rules_0 18 rfl rfl)
theorem dX1_rules_20 : decode cX1_rules 20 = .ok (.dup, 1) := dk_89 (dk_at dksX1_rules_0 20 rfl rfl)
theorem dX1_rules_21 : decode cX1_rules 21 = .ok (.iconst 0, 1) := dk_3 (dk_at dksX1_rules_0 21 rfl rfl)
theorem dX1_rules_22 : decode cX1_rules 22 = .ok (.aload_n 1, 1) := dk_43 (dk_at dksX1_rules_0 22 rfl rfl)
theorem dX1_rules_23 : decode cX1_rules 23 = .ok (.getfield 102, 3) := dk_180 0 102 (dk_at dksX1_rules_1 0 rfl rfl)
theorem dX1_rules_26 : decode cX1_rules 26 = .ok (.iastore, 1) := dk_79 (dk_at dksX1_rules_1 3 rfl rfl)
theorem dX1_rules_27 : decode cX1_rules 27 = .ok (.dup, 1) := dk_89 (dk_at dksX1_rules_1 4 rfl rfl)
theorem dX1_rules_28 : decode cX1_rules 28 = .ok (.iconst 1, 1) := dk_4 (dk_at dksX1_rules_1 5 rfl rfl)
theorem dX1_rules_29 : decode cX1_rules 29 = .ok (.aload_n 1, 1) := dk_43 (dk_at dksX1_rules_1 6 rfl rfl)
theorem dX1_rules_30 : decode cX1_rules 30 = .ok (.getfield 288, 3) := dk_180 1 32 (dk_at dksX1_rules_1 7 rfl rfl)
theorem dX1_rules_33 : decode cX1_rules 33 = .ok (.iastore, 1) := dk_79 (dk_at dksX1_rules_1 10 rfl rfl)
theorem dX1_rules_34 : decode cX1_rules 34 = .ok (.invokestatic 265, 3) := dk_184 1 9 (dk_at dksX1_rules_1 11 rfl rfl)
theorem dX1_rules_37 : decode cX1_rules 37 = .ok (.aload_n 0, 1) := dk_42 (dk_at dksX1_rules_1 14 rfl rfl)
theorem dX1_rules_38 : decode cX1_rules 38 = .ok (.bipush 59, 2) := dk_16 59 (dk_at dksX1_rules_1 15 rfl rfl)
theorem dX1_rules_40 : decode cX1_rules 40 = .ok (.invokevirtual 257, 3) := dk_182 1 1 (dk_at dksX1_rules_1 17 rfl rfl)
theorem dX1_rules_43 : decode cX1_rules 43 = .ok (.pop, 1) := dk_87 (dk_at dksX1_rules_1 20 rfl rfl)
theorem dX1_rules_44 : decode cX1_rules 44 = .ok (.return_, 1) := dk_177 (dk_at dksX1_rules_1 21 rfl rfl)

def dkwX2_init_0 : List UInt8 := [42, 183, 0, 3, 42, 43, 181, 0, 9, 177]
abbrev dktX2_init_0 : List UInt8 := dkwX2_init_0 ++ []
theorem dksX2_init_0 : cX2_init.data.toList.drop 0 = dktX2_init_0 := by decide +kernel
theorem dX2_init_0 : decode cX2_init 0 = .ok (.aload_n 0, 1) := dk_42 (dk_at dksX2_init_0 0 rfl rfl)
theorem dX2_init_1 : decode cX2_init 1 = .ok (.invokespecial 3, 3) := dk_183 0 3 (dk_at dksX2_init_0 1 rfl rfl)
theorem dX2_init_4 : decode cX2_init 4 = .ok (.aload_n 0, 1) := dk_42 (dk_at dksX2_init_0 4 rfl rfl)
theorem dX2_init_5 : decode cX2_init 5 = .ok (.aload_n 1, 1) := dk_43 (dk_at dksX2_init_0 5 rfl rfl)
theorem dX2_init_6 : decode cX2_init 6 = .ok (.putfield 9, 3) := dk_181 0 9 (dk_at dksX2_init_0 6 rfl rfl)
theorem dX2_init_9 : decode cX2_init 9 = .ok (.return_, 1) := dk_177 (dk_at dksX2_init_0 9 rfl rfl)
def dkwX2_copy_1 : List UInt8 := [181, 0, 23, 43, 176]
abbrev dktX2_copy_1 : List UInt8 := dkwX2_copy_1 ++ []
def dkwX2_copy_0 : List UInt8 := [187, 0, 10, 89, 42, 180, 0, 9, 182, 0, 15, 192, 0, 16, 183, 0, 20, 76, 43, 42, 180, 0, 23]
abbrev dktX2_copy_0 : List UInt8 := dkwX2_copy_0 ++ dktX2_copy_1
theorem dksX2_copy_0 : cX2_copy.data.toList.drop 0 = dktX2_copy_0 := by decide +kernel
theorem dksX2_copy_1 : cX2_copy.data.toList.drop 23 = dktX2_copy_1 := dk_seg dksX2_copy_0 23 rfl rfl
theorem dX2_copy_0 : decode cX2_copy 0 = .ok (.new 10, 3) := dk_187 0 10 (dk_at dksX2_copy_0 0 rfl rfl)
theorem dX2_copy_3 : decode cX2_copy 3 = .ok (.dup, 1) := dk_89 (dk_at dksX2_copy_0 3 rfl rfl)
theorem dX2_copy_4 : decode cX2_copy 4 = .ok (.aload_n 0, 1) := dk_42 (dk_at dksX2_copy_0 4 rfl rfl)
theorem dX2_copy_5 : decode cX2_copy 5 = .ok (.getfield 9, 3) := dk_180 0 9 (dk_at dksX2_copy_0 5 rfl rfl)
theorem dX2_copy_8 : decode cX2_copy 8 = .ok (.invokevirtual 15, 3) := dk_182 0 15 (dk_at dksX2_copy_0 8 rfl rfl)
theorem dX2_copy_11 : decode cX2_copy 11 = .ok (.checkcast 16, 3) := dk_192 0 16 (dk_at dksX2_copy_0 11 rfl rfl)
theorem dX2_copy_14 : decode cX2_copy 14 = .ok (.invokespecial 20, 3) := dk_183 0 20 (dk_at dksX2_copy_0 14 rfl rfl)
theorem dX2_copy_17 : decode cX2_copy 17 = .ok (.astore_n 1, 1) := dk_76 (dk_at dksX2_copy_0 17 rfl rfl)
theorem dX2_copy_18 : decode cX2_copy 18 = .ok (.aload_n 1, 1) := dk_43 (dk_at dksX2_copy_0 18 rfl rfl)
theorem dX2_copy_19 : decode cX2_copy 19 = .ok (.aload_n 0, 1) := dk_42 (dk_at dksX2_copy_0 19 rfl rfl)
theorem dX2_copy_20 : decode cX2_copy 20 = .ok (.getfield 23, 3) := dk_180 0 23 (dk_at dksX2_copy_0 20 rfl rfl)
theorem dX2_copy_23 : decode cX2_copy 23 = .ok (.putfield 23, 3) := dk_181 0 23 (dk_at dksX2_copy_1 0 rfl rfl)
theorem dX2_copy_26 : decode cX2_copy 26 = .ok (.aload_n 1, 1) := dk_43 (dk_at dksX2_copy_1 3 rfl rfl)
theorem dX2_copy_27 : decode cX2_copy 27 = .ok (.areturn, 1) := dk_176 (dk_at dksX2_copy_1 4 rfl rfl)
def dkwX2_takes_0 : List UInt8 := [42, 180, 0, 9, 182, 0, 15, 192, 0, 16, 3, 43, 83, 4, 172, 77, 3, 172]
abbrev dktX2_takes_0 : List UInt8 := dkwX2_takes_0 ++ []
theorem dksX2_takes_0 : cX2_takes.data.toList.drop 0 = dktX2_takes_0 := by decide +kernel
theorem dX2_takes_0 : decode cX2_takes 0 = .ok (.aload_n 0, 1) := dk_42 (dk_at dksX2_takes_0 0 rfl rfl)
theorem dX2_takes_1 : decode cX2_takes 1 = .ok (.getfield 9, 3) := dk_180 0 9 (dk_at dksX2_takes_0 1 rfl rfl)
theorem dX2_takes_4 : decode cX2_takes 4 = .ok (.invokevirtual 15, 3) := dk_182 0 15 (dk_at dksX2_takes_0 4 rfl rfl)
theorem dX2_takes_7 : decode cX2_takes 7 = .ok (.checkcast 16, 3) := dk_192 0 16 (dk_at dksX2_takes_0 7 rfl rfl)
theorem dX2_takes_10 : decode cX2_takes 10 = .ok (.iconst 0, 1) := dk_3 (dk_at dksX2_takes_0 10 rfl rfl)
theorem dX2_takes_11 : decode cX2_takes 11 = .ok (.aload_n 1, 1) := dk_43 (dk_at dksX2_takes_0 11 rfl rfl)
theorem dX2_takes_12 : decode cX2_takes 12 = .ok (.aastore, 1) := dk_83 (dk_at dksX2_takes_0 12 rfl rfl)
theorem dX2_takes_13 : decode cX2_takes 13 = .ok (.iconst 1, 1) := dk_4 (dk_at dksX2_takes_0 13 rfl rfl)
theorem dX2_takes_14 : decode cX2_takes 14 = .ok (.ireturn, 1) := dk_172 (dk_at dksX2_takes_0 14 rfl rfl)
theorem dX2_takes_15 : decode cX2_takes 15 = .ok (.astore_n 2, 1) := dk_77 (dk_at dksX2_takes_0 15 rfl rfl)
theorem dX2_takes_16 : decode cX2_takes 16 = .ok (.iconst 0, 1) := dk_3 (dk_at dksX2_takes_0 16 rfl rfl)
theorem dX2_takes_17 : decode cX2_takes 17 = .ok (.ireturn, 1) := dk_172 (dk_at dksX2_takes_0 17 rfl rfl)
def dkwX2_lays_1 : List UInt8 := [180, 0, 23, 4, 96, 181, 0, 23, 42, 180, 0, 23, 4, 100, 172]
abbrev dktX2_lays_1 : List UInt8 := dkwX2_lays_1 ++ []
def dkwX2_lays_0 : List UInt8 := [42, 180, 0, 23, 7, 160, 0, 6, 16, 253, 172, 42, 180, 0, 9, 42, 180, 0, 23, 43, 83, 42, 89]
abbrev dktX2_lays_0 : List UInt8 := dkwX2_lays_0 ++ dktX2_lays_1
theorem dksX2_lays_0 : cX2_lays.data.toList.drop 0 = dktX2_lays_0 := by decide +kernel
theorem dksX2_lays_1 : cX2_lays.data.toList.drop 23 = dktX2_lays_1 := dk_seg dksX2_lays_0 23 rfl rfl
theorem dX2_lays_0 : decode cX2_lays 0 = .ok (.aload_n 0, 1) := dk_42 (dk_at dksX2_lays_0 0 rfl rfl)
theorem dX2_lays_1 : decode cX2_lays 1 = .ok (.getfield 23, 3) := dk_180 0 23 (dk_at dksX2_lays_0 1 rfl rfl)
theorem dX2_lays_4 : decode cX2_lays 4 = .ok (.iconst 4, 1) := dk_7 (dk_at dksX2_lays_0 4 rfl rfl)
theorem dX2_lays_5 : decode cX2_lays 5 = .ok (.if_icmp .ne 6, 3) := dk_160 0 6 (dk_at dksX2_lays_0 5 rfl rfl)
theorem dX2_lays_8 : decode cX2_lays 8 = .ok (.bipush (-3), 2) := dk_16 253 (dk_at dksX2_lays_0 8 rfl rfl)
theorem dX2_lays_10 : decode cX2_lays 10 = .ok (.ireturn, 1) := dk_172 (dk_at dksX2_lays_0 10 rfl rfl)
theorem dX2_lays_11 : decode cX2_lays 11 = .ok (.aload_n 0, 1) := dk_42 (dk_at dksX2_lays_0 11 rfl rfl)
theorem dX2_lays_12 : decode cX2_lays 12 = .ok (.getfield 9, 3) := dk_180 0 9 (dk_at dksX2_lays_0 12 rfl rfl)
theorem dX2_lays_15 : decode cX2_lays 15 = .ok (.aload_n 0, 1) := dk_42 (dk_at dksX2_lays_0 15 rfl rfl)
theorem dX2_lays_16 : decode cX2_lays 16 = .ok (.getfield 23, 3) := dk_180 0 23 (dk_at dksX2_lays_0 16 rfl rfl)
theorem dX2_lays_19 : decode cX2_lays 19 = .ok (.aload_n 1, 1) := dk_43 (dk_at dksX2_lays_0 19 rfl rfl)
theorem dX2_lays_20 : decode cX2_lays 20 = .ok (.aastore, 1) := dk_83 (dk_at dksX2_lays_0 20 rfl rfl)
theorem dX2_lays_21 : decode cX2_lays 21 = .ok (.aload_n 0, 1) := dk_42 (dk_at dksX2_lays_0 21 rfl rfl)
theorem dX2_lays_22 : decode cX2_lays 22 = .ok (.dup, 1) := dk_89 (dk_at dksX2_lays_0 22 rfl rfl)
theorem dX2_lays_23 : decode cX2_lays 23 = .ok (.getfield 23, 3) := dk_180 0 23 (dk_at dksX2_lays_1 0 rfl rfl)
theorem dX2_lays_26 : decode cX2_lays 26 = .ok (.iconst 1, 1) := dk_4 (dk_at dksX2_lays_1 3 rfl rfl)
theorem dX2_lays_27 : decode cX2_lays 27 = .ok (.iadd, 1) := dk_96 (dk_at dksX2_lays_1 4 rfl rfl)
theorem dX2_lays_28 : decode cX2_lays 28 = .ok (.putfield 23, 3) := dk_181 0 23 (dk_at dksX2_lays_1 5 rfl rfl)
theorem dX2_lays_31 : decode cX2_lays 31 = .ok (.aload_n 0, 1) := dk_42 (dk_at dksX2_lays_1 8 rfl rfl)
theorem dX2_lays_32 : decode cX2_lays 32 = .ok (.getfield 23, 3) := dk_180 0 23 (dk_at dksX2_lays_1 9 rfl rfl)
theorem dX2_lays_35 : decode cX2_lays 35 = .ok (.iconst 1, 1) := dk_4 (dk_at dksX2_lays_1 12 rfl rfl)
theorem dX2_lays_36 : decode cX2_lays 36 = .ok (.isub, 1) := dk_100 (dk_at dksX2_lays_1 13 rfl rfl)
theorem dX2_lays_37 : decode cX2_lays 37 = .ok (.ireturn, 1) := dk_172 (dk_at dksX2_lays_1 14 rfl rfl)
def dkwX2_lifts_1 : List UInt8 := [100, 181, 0, 23, 42, 180, 0, 9, 42, 180, 0, 23, 1, 83, 42, 180, 0, 23, 172]
abbrev dktX2_lifts_1 : List UInt8 := dkwX2_lifts_1 ++ []
def dkwX2_lifts_0 : List UInt8 := [42, 180, 0, 9, 27, 4, 96, 42, 180, 0, 9, 27, 6, 27, 100, 184, 0, 29, 42, 89, 180, 0, 23, 4]
abbrev dktX2_lifts_0 : List UInt8 := dkwX2_lifts_0 ++ dktX2_lifts_1
theorem dksX2_lifts_0 : cX2_lifts.data.toList.drop 0 = dktX2_lifts_0 := by decide +kernel
theorem dksX2_lifts_1 : cX2_lifts.data.toList.drop 24 = dktX2_lifts_1 := dk_seg dksX2_lifts_0 24 rfl rfl
theorem dX2_lifts_0 : decode cX2_lifts 0 = .ok (.aload_n 0, 1) := dk_42 (dk_at dksX2_lifts_0 0 rfl rfl)
theorem dX2_lifts_1 : decode cX2_lifts 1 = .ok (.getfield 9, 3) := dk_180 0 9 (dk_at dksX2_lifts_0 1 rfl rfl)
theorem dX2_lifts_4 : decode cX2_lifts 4 = .ok (.iload_n 1, 1) := dk_27 (dk_at dksX2_lifts_0 4 rfl rfl)
theorem dX2_lifts_5 : decode cX2_lifts 5 = .ok (.iconst 1, 1) := dk_4 (dk_at dksX2_lifts_0 5 rfl rfl)
theorem dX2_lifts_6 : decode cX2_lifts 6 = .ok (.iadd, 1) := dk_96 (dk_at dksX2_lifts_0 6 rfl rfl)
theorem dX2_lifts_7 : decode cX2_lifts 7 = .ok (.aload_n 0, 1) := dk_42 (dk_at dksX2_lifts_0 7 rfl rfl)
theorem dX2_lifts_8 : decode cX2_lifts 8 = .ok (.getfield 9, 3) := dk_180 0 9 (dk_at dksX2_lifts_0 8 rfl rfl)
theorem dX2_lifts_11 : decode cX2_lifts 11 = .ok (.iload_n 1, 1) := dk_27 (dk_at dksX2_lifts_0 11 rfl rfl)
theorem dX2_lifts_12 : decode cX2_lifts 12 = .ok (.iconst 3, 1) := dk_6 (dk_at dksX2_lifts_0 12 rfl rfl)
theorem dX2_lifts_13 : decode cX2_lifts 13 = .ok (.iload_n 1, 1) := dk_27 (dk_at dksX2_lifts_0 13 rfl rfl)
theorem dX2_lifts_14 : decode cX2_lifts 14 = .ok (.isub, 1) := dk_100 (dk_at dksX2_lifts_0 14 rfl rfl)
theorem dX2_lifts_15 : decode cX2_lifts 15 = .ok (.invokestatic 29, 3) := dk_184 0 29 (dk_at dksX2_lifts_0 15 rfl rfl)
theorem dX2_lifts_18 : decode cX2_lifts 18 = .ok (.aload_n 0, 1) := dk_42 (dk_at dksX2_lifts_0 18 rfl rfl)
theorem dX2_lifts_19 : decode cX2_lifts 19 = .ok (.dup, 1) := dk_89 (dk_at dksX2_lifts_0 19 rfl rfl)
theorem dX2_lifts_20 : decode cX2_lifts 20 = .ok (.getfield 23, 3) := dk_180 0 23 (dk_at dksX2_lifts_0 20 rfl rfl)
theorem dX2_lifts_23 : decode cX2_lifts 23 = .ok (.iconst 1, 1) := dk_4 (dk_at dksX2_lifts_0 23 rfl rfl)
theorem dX2_lifts_24 : decode cX2_lifts 24 = .ok (.isub, 1) := dk_100 (dk_at dksX2_lifts_1 0 rfl rfl)
theorem dX2_lifts_25 : decode cX2_lifts 25 = .ok (.putfield 23, 3) := dk_181 0 23 (dk_at dksX2_lifts_1 1 rfl rfl)
theorem dX2_lifts_28 : decode cX2_lifts 28 = .ok (.aload_n 0, 1) := dk_42 (dk_at dksX2_lifts_1 4 rfl rfl)
theorem dX2_lifts_29 : decode cX2_lifts 29 = .ok (.getfield 9, 3) := dk_180 0 9 (dk_at dksX2_lifts_1 5 rfl rfl)
theorem dX2_lifts_32 : decode cX2_lifts 32 = .ok (.aload_n 0, 1) := dk_42 (dk_at dksX2_lifts_1 8 rfl rfl)
theorem dX2_lifts_33 : decode cX2_lifts 33 = .ok (.getfield 23, 3) := dk_180 0 23 (dk_at dksX2_lifts_1 9 rfl rfl)
theorem dX2_lifts_36 : decode cX2_lifts 36 = .ok (.aconst_null, 1) := dk_1 (dk_at dksX2_lifts_1 12 rfl rfl)
theorem dX2_lifts_37 : decode cX2_lifts 37 = .ok (.aastore, 1) := dk_83 (dk_at dksX2_lifts_1 13 rfl rfl)
theorem dX2_lifts_38 : decode cX2_lifts 38 = .ok (.aload_n 0, 1) := dk_42 (dk_at dksX2_lifts_1 14 rfl rfl)
theorem dX2_lifts_39 : decode cX2_lifts 39 = .ok (.getfield 23, 3) := dk_180 0 23 (dk_at dksX2_lifts_1 15 rfl rfl)
theorem dX2_lifts_42 : decode cX2_lifts 42 = .ok (.ireturn, 1) := dk_172 (dk_at dksX2_lifts_1 18 rfl rfl)

def dkwX3_init_0 : List UInt8 := [42, 183, 0, 3, 42, 7, 188, 10, 181, 0, 9, 177]
abbrev dktX3_init_0 : List UInt8 := dkwX3_init_0 ++ []
theorem dksX3_init_0 : cX3_init.data.toList.drop 0 = dktX3_init_0 := by decide +kernel
theorem dX3_init_0 : decode cX3_init 0 = .ok (.aload_n 0, 1) := dk_42 (dk_at dksX3_init_0 0 rfl rfl)
theorem dX3_init_1 : decode cX3_init 1 = .ok (.invokespecial 3, 3) := dk_183 0 3 (dk_at dksX3_init_0 1 rfl rfl)
theorem dX3_init_4 : decode cX3_init 4 = .ok (.aload_n 0, 1) := dk_42 (dk_at dksX3_init_0 4 rfl rfl)
theorem dX3_init_5 : decode cX3_init 5 = .ok (.iconst 4, 1) := dk_7 (dk_at dksX3_init_0 5 rfl rfl)
theorem dX3_init_6 : decode cX3_init 6 = .ok (.newarray .int, 2) := dk_188_10 (dk_at dksX3_init_0 6 rfl rfl)
theorem dX3_init_8 : decode cX3_init 8 = .ok (.putfield 9, 3) := dk_181 0 9 (dk_at dksX3_init_0 8 rfl rfl)
theorem dX3_init_11 : decode cX3_init 11 = .ok (.return_, 1) := dk_177 (dk_at dksX3_init_0 11 rfl rfl)
def dkwX3_like_0 : List UInt8 := [43, 180, 0, 9, 3, 42, 180, 0, 9, 3, 7, 184, 0, 15, 42, 43, 180, 0, 21, 181, 0, 21, 177]
abbrev dktX3_like_0 : List UInt8 := dkwX3_like_0 ++ []
theorem dksX3_like_0 : cX3_like.data.toList.drop 0 = dktX3_like_0 := by decide +kernel
theorem dX3_like_0 : decode cX3_like 0 = .ok (.aload_n 1, 1) := dk_43 (dk_at dksX3_like_0 0 rfl rfl)
theorem dX3_like_1 : decode cX3_like 1 = .ok (.getfield 9, 3) := dk_180 0 9 (dk_at dksX3_like_0 1 rfl rfl)
theorem dX3_like_4 : decode cX3_like 4 = .ok (.iconst 0, 1) := dk_3 (dk_at dksX3_like_0 4 rfl rfl)
theorem dX3_like_5 : decode cX3_like 5 = .ok (.aload_n 0, 1) := dk_42 (dk_at dksX3_like_0 5 rfl rfl)
theorem dX3_like_6 : decode cX3_like 6 = .ok (.getfield 9, 3) := dk_180 0 9 (dk_at dksX3_like_0 6 rfl rfl)
theorem dX3_like_9 : decode cX3_like 9 = .ok (.iconst 0, 1) := dk_3 (dk_at dksX3_like_0 9 rfl rfl)
theorem dX3_like_10 : decode cX3_like 10 = .ok (.iconst 4, 1) := dk_7 (dk_at dksX3_like_0 10 rfl rfl)
theorem dX3_like_11 : decode cX3_like 11 = .ok (.invokestatic 15, 3) := dk_184 0 15 (dk_at dksX3_like_0 11 rfl rfl)
theorem dX3_like_14 : decode cX3_like 14 = .ok (.aload_n 0, 1) := dk_42 (dk_at dksX3_like_0 14 rfl rfl)
theorem dX3_like_15 : decode cX3_like 15 = .ok (.aload_n 1, 1) := dk_43 (dk_at dksX3_like_0 15 rfl rfl)
theorem dX3_like_16 : decode cX3_like 16 = .ok (.getfield 21, 3) := dk_180 0 21 (dk_at dksX3_like_0 16 rfl rfl)
theorem dX3_like_19 : decode cX3_like 19 = .ok (.putfield 21, 3) := dk_181 0 21 (dk_at dksX3_like_0 19 rfl rfl)
theorem dX3_like_22 : decode cX3_like 22 = .ok (.return_, 1) := dk_177 (dk_at dksX3_like_0 22 rfl rfl)
def dkwX3_isLike_1 : List UInt8 := [153, 0, 7, 4, 167, 0, 4, 3, 172]
abbrev dktX3_isLike_1 : List UInt8 := dkwX3_isLike_1 ++ []
def dkwX3_isLike_0 : List UInt8 := [42, 180, 0, 21, 43, 180, 0, 21, 160, 0, 21, 42, 180, 0, 9, 43, 180, 0, 9, 184, 0, 25]
abbrev dktX3_isLike_0 : List UInt8 := dkwX3_isLike_0 ++ dktX3_isLike_1
theorem dksX3_isLike_0 : cX3_isLike.data.toList.drop 0 = dktX3_isLike_0 := by decide +kernel
theorem dksX3_isLike_1 : cX3_isLike.data.toList.drop 22 = dktX3_isLike_1 := dk_seg dksX3_isLike_0 22 rfl rfl
theorem dX3_isLike_0 : decode cX3_isLike 0 = .ok (.aload_n 0, 1) := dk_42 (dk_at dksX3_isLike_0 0 rfl rfl)
theorem dX3_isLike_1 : decode cX3_isLike 1 = .ok (.getfield 21, 3) := dk_180 0 21 (dk_at dksX3_isLike_0 1 rfl rfl)
theorem dX3_isLike_4 : decode cX3_isLike 4 = .ok (.aload_n 1, 1) := dk_43 (dk_at dksX3_isLike_0 4 rfl rfl)
theorem dX3_isLike_5 : decode cX3_isLike 5 = .ok (.getfield 21, 3) := dk_180 0 21 (dk_at dksX3_isLike_0 5 rfl rfl)
theorem dX3_isLike_8 : decode cX3_isLike 8 = .ok (.if_icmp .ne 21, 3) := dk_160 0 21 (dk_at dksX3_isLike_0 8 rfl rfl)
theorem dX3_isLike_11 : decode cX3_isLike 11 = .ok (.aload_n 0, 1) := dk_42 (dk_at dksX3_isLike_0 11 rfl rfl)
theorem dX3_isLike_12 : decode cX3_isLike 12 = .ok (.getfield 9, 3) := dk_180 0 9 (dk_at dksX3_isLike_0 12 rfl rfl)
theorem dX3_isLike_15 : decode cX3_isLike 15 = .ok (.aload_n 1, 1) := dk_43 (dk_at dksX3_isLike_0 15 rfl rfl)
theorem dX3_isLike_16 : decode cX3_isLike 16 = .ok (.getfield 9, 3) := dk_180 0 9 (dk_at dksX3_isLike_0 16 rfl rfl)
theorem dX3_isLike_19 : decode cX3_isLike 19 = .ok (.invokestatic 25, 3) := dk_184 0 25 (dk_at dksX3_isLike_0 19 rfl rfl)
theorem dX3_isLike_22 : decode cX3_isLike 22 = .ok (.ifCond .eq 7, 3) := dk_153 0 7 (dk_at dksX3_isLike_1 0 rfl rfl)
theorem dX3_isLike_25 : decode cX3_isLike 25 = .ok (.iconst 1, 1) := dk_4 (dk_at dksX3_isLike_1 3 rfl rfl)
theorem dX3_isLike_26 : decode cX3_isLike 26 = .ok (.goto 4, 3) := dk_167 0 4 (dk_at dksX3_isLike_1 4 rfl rfl)
theorem dX3_isLike_29 : decode cX3_isLike 29 = .ok (.iconst 0, 1) := dk_3 (dk_at dksX3_isLike_1 7 rfl rfl)
theorem dX3_isLike_30 : decode cX3_isLike 30 = .ok (.ireturn, 1) := dk_172 (dk_at dksX3_isLike_1 8 rfl rfl)
def dkwX3_copy_1 : List UInt8 := [180, 0, 21, 181, 0, 21, 43, 176]
abbrev dktX3_copy_1 : List UInt8 := dkwX3_copy_1 ++ []
def dkwX3_copy_0 : List UInt8 := [187, 0, 10, 89, 183, 0, 31, 76, 43, 42, 180, 0, 9, 182, 0, 32, 192, 0, 33, 181, 0, 9, 43, 42]
abbrev dktX3_copy_0 : List UInt8 := dkwX3_copy_0 ++ dktX3_copy_1
theorem dksX3_copy_0 : cX3_copy.data.toList.drop 0 = dktX3_copy_0 := by decide +kernel
theorem dksX3_copy_1 : cX3_copy.data.toList.drop 24 = dktX3_copy_1 := dk_seg dksX3_copy_0 24 rfl rfl
theorem dX3_copy_0 : decode cX3_copy 0 = .ok (.new 10, 3) := dk_187 0 10 (dk_at dksX3_copy_0 0 rfl rfl)
theorem dX3_copy_3 : decode cX3_copy 3 = .ok (.dup, 1) := dk_89 (dk_at dksX3_copy_0 3 rfl rfl)
theorem dX3_copy_4 : decode cX3_copy 4 = .ok (.invokespecial 31, 3) := dk_183 0 31 (dk_at dksX3_copy_0 4 rfl rfl)
theorem dX3_copy_7 : decode cX3_copy 7 = .ok (.astore_n 1, 1) := dk_76 (dk_at dksX3_copy_0 7 rfl rfl)
theorem dX3_copy_8 : decode cX3_copy 8 = .ok (.aload_n 1, 1) := dk_43 (dk_at dksX3_copy_0 8 rfl rfl)
theorem dX3_copy_9 : decode cX3_copy 9 = .ok (.aload_n 0, 1) := dk_42 (dk_at dksX3_copy_0 9 rfl rfl)
theorem dX3_copy_10 : decode cX3_copy 10 = .ok (.getfield 9, 3) := dk_180 0 9 (dk_at dksX3_copy_0 10 rfl rfl)
theorem dX3_copy_13 : decode cX3_copy 13 = .ok (.invokevirtual 32, 3) := dk_182 0 32 (dk_at dksX3_copy_0 13 rfl rfl)
theorem dX3_copy_16 : decode cX3_copy 16 = .ok (.checkcast 33, 3) := dk_192 0 33 (dk_at dksX3_copy_0 16 rfl rfl)
theorem dX3_copy_19 : decode cX3_copy 19 = .ok (.putfield 9, 3) := dk_181 0 9 (dk_at dksX3_copy_0 19 rfl rfl)
theorem dX3_copy_22 : decode cX3_copy 22 = .ok (.aload_n 1, 1) := dk_43 (dk_at dksX3_copy_0 22 rfl rfl)
theorem dX3_copy_23 : decode cX3_copy 23 = .ok (.aload_n 0, 1) := dk_42 (dk_at dksX3_copy_0 23 rfl rfl)
theorem dX3_copy_24 : decode cX3_copy 24 = .ok (.getfield 21, 3) := dk_180 0 21 (dk_at dksX3_copy_1 0 rfl rfl)
theorem dX3_copy_27 : decode cX3_copy 27 = .ok (.putfield 21, 3) := dk_181 0 21 (dk_at dksX3_copy_1 3 rfl rfl)
theorem dX3_copy_30 : decode cX3_copy 30 = .ok (.aload_n 1, 1) := dk_43 (dk_at dksX3_copy_1 6 rfl rfl)
theorem dX3_copy_31 : decode cX3_copy 31 = .ok (.areturn, 1) := dk_176 (dk_at dksX3_copy_1 7 rfl rfl)

def dkwX8_init_0 : List UInt8 := [42, 27, 28, 183, 0, 1, 177]
abbrev dktX8_init_0 : List UInt8 := dkwX8_init_0 ++ []
theorem dksX8_init_0 : cX8_init.data.toList.drop 0 = dktX8_init_0 := by decide +kernel
theorem dX8_init_0 : decode cX8_init 0 = .ok (.aload_n 0, 1) := dk_42 (dk_at dksX8_init_0 0 rfl rfl)
theorem dX8_init_1 : decode cX8_init 1 = .ok (.iload_n 1, 1) := dk_27 (dk_at dksX8_init_0 1 rfl rfl)
theorem dX8_init_2 : decode cX8_init 2 = .ok (.iload_n 2, 1) := dk_28 (dk_at dksX8_init_0 2 rfl rfl)
theorem dX8_init_3 : decode cX8_init 3 = .ok (.invokespecial 1, 3) := dk_183 0 1 (dk_at dksX8_init_0 3 rfl rfl)
theorem dX8_init_6 : decode cX8_init 6 = .ok (.return_, 1) := dk_177 (dk_at dksX8_init_0 6 rfl rfl)
def dkwX8_cap_0 : List UInt8 := [42, 183, 0, 7, 42, 180, 0, 11, 184, 0, 17, 172]
abbrev dktX8_cap_0 : List UInt8 := dkwX8_cap_0 ++ []
theorem dksX8_cap_0 : cX8_cap.data.toList.drop 0 = dktX8_cap_0 := by decide +kernel
theorem dX8_cap_0 : decode cX8_cap 0 = .ok (.aload_n 0, 1) := dk_42 (dk_at dksX8_cap_0 0 rfl rfl)
theorem dX8_cap_1 : decode cX8_cap 1 = .ok (.invokespecial 7, 3) := dk_183 0 7 (dk_at dksX8_cap_0 1 rfl rfl)
theorem dX8_cap_4 : decode cX8_cap 4 = .ok (.aload_n 0, 1) := dk_42 (dk_at dksX8_cap_0 4 rfl rfl)
theorem dX8_cap_5 : decode cX8_cap 5 = .ok (.getfield 11, 3) := dk_180 0 11 (dk_at dksX8_cap_0 5 rfl rfl)
theorem dX8_cap_8 : decode cX8_cap 8 = .ok (.invokestatic 17, 3) := dk_184 0 17 (dk_at dksX8_cap_0 8 rfl rfl)
theorem dX8_cap_11 : decode cX8_cap 11 = .ok (.ireturn, 1) := dk_172 (dk_at dksX8_cap_0 11 rfl rfl)
theorem dX8_kind_0 : decode cX8_kind 0 = .ok (.iconst 0, 1) := by decide +kernel
theorem dX8_kind_1 : decode cX8_kind 1 = .ok (.ireturn, 1) := by decide +kernel

def dkwX9_init_0 : List UInt8 := [42, 27, 28, 183, 0, 1, 177]
abbrev dktX9_init_0 : List UInt8 := dkwX9_init_0 ++ []
theorem dksX9_init_0 : cX9_init.data.toList.drop 0 = dktX9_init_0 := by decide +kernel
theorem dX9_init_0 : decode cX9_init 0 = .ok (.aload_n 0, 1) := dk_42 (dk_at dksX9_init_0 0 rfl rfl)
theorem dX9_init_1 : decode cX9_init 1 = .ok (.iload_n 1, 1) := dk_27 (dk_at dksX9_init_0 1 rfl rfl)
theorem dX9_init_2 : decode cX9_init 2 = .ok (.iload_n 2, 1) := dk_28 (dk_at dksX9_init_0 2 rfl rfl)
theorem dX9_init_3 : decode cX9_init 3 = .ok (.invokespecial 1, 3) := dk_183 0 1 (dk_at dksX9_init_0 3 rfl rfl)
theorem dX9_init_6 : decode cX9_init 6 = .ok (.return_, 1) := dk_177 (dk_at dksX9_init_0 6 rfl rfl)
def dkwX9_shock_0 : List UInt8 := [42, 183, 0, 7, 42, 180, 0, 11, 96, 172]
abbrev dktX9_shock_0 : List UInt8 := dkwX9_shock_0 ++ []
theorem dksX9_shock_0 : cX9_shock.data.toList.drop 0 = dktX9_shock_0 := by decide +kernel
theorem dX9_shock_0 : decode cX9_shock 0 = .ok (.aload_n 0, 1) := dk_42 (dk_at dksX9_shock_0 0 rfl rfl)
theorem dX9_shock_1 : decode cX9_shock 1 = .ok (.invokespecial 7, 3) := dk_183 0 7 (dk_at dksX9_shock_0 1 rfl rfl)
theorem dX9_shock_4 : decode cX9_shock 4 = .ok (.aload_n 0, 1) := dk_42 (dk_at dksX9_shock_0 4 rfl rfl)
theorem dX9_shock_5 : decode cX9_shock 5 = .ok (.getfield 11, 3) := dk_180 0 11 (dk_at dksX9_shock_0 5 rfl rfl)
theorem dX9_shock_8 : decode cX9_shock 8 = .ok (.iadd, 1) := dk_96 (dk_at dksX9_shock_0 8 rfl rfl)
theorem dX9_shock_9 : decode cX9_shock 9 = .ok (.ireturn, 1) := dk_172 (dk_at dksX9_shock_0 9 rfl rfl)
theorem dX9_kind_0 : decode cX9_kind 0 = .ok (.iconst 1, 1) := by decide +kernel
theorem dX9_kind_1 : decode cX9_kind 1 = .ok (.ireturn, 1) := by decide +kernel

def dkwX0_init_1 : List UInt8 := [181, 0, 19, 42, 17, 3, 32, 188, 8, 181, 0, 23, 177]
abbrev dktX0_init_1 : List UInt8 := dkwX0_init_1 ++ []
def dkwX0_init_0 : List UInt8 := [42, 183, 0, 1, 42, 187, 0, 7, 89, 183, 0, 9, 181, 0, 10, 42, 187, 0, 16, 89, 183, 0, 18]
abbrev dktX0_init_0 : List UInt8 := dkwX0_init_0 ++ dktX0_init_1
theorem dksX0_init_0 : cX0_init.data.toList.drop 0 = dktX0_init_0 := by decide +kernel
theorem dksX0_init_1 : cX0_init.data.toList.drop 23 = dktX0_init_1 := dk_seg dksX0_init_0 23 rfl rfl
theorem dX0_init_0 : decode cX0_init 0 = .ok (.aload_n 0, 1) := dk_42 (dk_at dksX0_init_0 0 rfl rfl)
theorem dX0_init_1 : decode cX0_init 1 = .ok (.invokespecial 1, 3) := dk_183 0 1 (dk_at dksX0_init_0 1 rfl rfl)
theorem dX0_init_4 : decode cX0_init 4 = .ok (.aload_n 0, 1) := dk_42 (dk_at dksX0_init_0 4 rfl rfl)
theorem dX0_init_5 : decode cX0_init 5 = .ok (.new 7, 3) := dk_187 0 7 (dk_at dksX0_init_0 5 rfl rfl)
theorem dX0_init_8 : decode cX0_init 8 = .ok (.dup, 1) := dk_89 (dk_at dksX0_init_0 8 rfl rfl)
theorem dX0_init_9 : decode cX0_init 9 = .ok (.invokespecial 9, 3) := dk_183 0 9 (dk_at dksX0_init_0 9 rfl rfl)
theorem dX0_init_12 : decode cX0_init 12 = .ok (.putfield 10, 3) := dk_181 0 10 (dk_at dksX0_init_0 12 rfl rfl)
theorem dX0_init_15 : decode cX0_init 15 = .ok (.aload_n 0, 1) := dk_42 (dk_at dksX0_init_0 15 rfl rfl)
theorem dX0_init_16 : decode cX0_init 16 = .ok (.new 16, 3) := dk_187 0 16 (dk_at dksX0_init_0 16 rfl rfl)
theorem dX0_init_19 : decode cX0_init 19 = .ok (.dup, 1) := dk_89 (dk_at dksX0_init_0 19 rfl rfl)
theorem dX0_init_20 : decode cX0_init 20 = .ok (.invokespecial 18, 3) := dk_183 0 18 (dk_at dksX0_init_0 20 rfl rfl)
theorem dX0_init_23 : decode cX0_init 23 = .ok (.putfield 19, 3) := dk_181 0 19 (dk_at dksX0_init_1 0 rfl rfl)
theorem dX0_init_26 : decode cX0_init 26 = .ok (.aload_n 0, 1) := dk_42 (dk_at dksX0_init_1 3 rfl rfl)
theorem dX0_init_27 : decode cX0_init 27 = .ok (.sipush 800, 3) := dk_17 3 32 (dk_at dksX0_init_1 4 rfl rfl)
theorem dX0_init_30 : decode cX0_init 30 = .ok (.newarray .byte, 2) := dk_188_8 (dk_at dksX0_init_1 7 rfl rfl)
theorem dX0_init_32 : decode cX0_init 32 = .ok (.putfield 23, 3) := dk_181 0 23 (dk_at dksX0_init_1 9 rfl rfl)
theorem dX0_init_35 : decode cX0_init 35 = .ok (.return_, 1) := dk_177 (dk_at dksX0_init_1 12 rfl rfl)
def dkwX0_asset_3 : List UInt8 := [4, 96, 181, 0, 51, 45, 180, 0, 51, 4, 100, 172]
abbrev dktX0_asset_3 : List UInt8 := dkwX0_asset_3 ++ []
def dkwX0_asset_2 : List UInt8 := [180, 0, 51, 50, 3, 27, 79, 45, 180, 0, 58, 45, 180, 0, 51, 50, 4, 28, 79, 45, 89, 180, 0, 51]
abbrev dktX0_asset_2 : List UInt8 := dkwX0_asset_2 ++ dktX0_asset_3
def dkwX0_asset_1 : List UInt8 := [42, 180, 0, 10, 180, 0, 51, 7, 160, 0, 5, 2, 172, 42, 182, 0, 55, 78, 45, 180, 0, 58, 45]
abbrev dktX0_asset_1 : List UInt8 := dkwX0_asset_1 ++ dktX0_asset_2
def dkwX0_asset_0 : List UInt8 := [27, 133, 10, 20, 0, 43, 184, 0, 45, 153, 0, 26, 28, 133, 9, 20, 0, 49, 184, 0, 45, 153, 0, 14]
abbrev dktX0_asset_0 : List UInt8 := dkwX0_asset_0 ++ dktX0_asset_1
theorem dksX0_asset_0 : cX0_asset.data.toList.drop 0 = dktX0_asset_0 := by decide +kernel
theorem dksX0_asset_1 : cX0_asset.data.toList.drop 24 = dktX0_asset_1 := dk_seg dksX0_asset_0 24 rfl rfl
theorem dksX0_asset_2 : cX0_asset.data.toList.drop 47 = dktX0_asset_2 := dk_seg dksX0_asset_1 23 rfl rfl
theorem dksX0_asset_3 : cX0_asset.data.toList.drop 71 = dktX0_asset_3 := dk_seg dksX0_asset_2 24 rfl rfl
theorem dX0_asset_0 : decode cX0_asset 0 = .ok (.iload_n 1, 1) := dk_27 (dk_at dksX0_asset_0 0 rfl rfl)
theorem dX0_asset_1 : decode cX0_asset 1 = .ok (.i2l, 1) := dk_133 (dk_at dksX0_asset_0 1 rfl rfl)
theorem dX0_asset_2 : decode cX0_asset 2 = .ok (.lconst 1, 1) := dk_10 (dk_at dksX0_asset_0 2 rfl rfl)
theorem dX0_asset_3 : decode cX0_asset 3 = .ok (.ldc2_w 43, 3) := dk_20 0 43 (dk_at dksX0_asset_0 3 rfl rfl)
theorem dX0_asset_6 : decode cX0_asset 6 = .ok (.invokestatic 45, 3) := dk_184 0 45 (dk_at dksX0_asset_0 6 rfl rfl)
theorem dX0_asset_9 : decode cX0_asset 9 = .ok (.ifCond .eq 26, 3) := dk_153 0 26 (dk_at dksX0_asset_0 9 rfl rfl)
theorem dX0_asset_12 : decode cX0_asset 12 = .ok (.iload_n 2, 1) := dk_28 (dk_at dksX0_asset_0 12 rfl rfl)
theorem dX0_asset_13 : decode cX0_asset 13 = .ok (.i2l, 1) := dk_133 (dk_at dksX0_asset_0 13 rfl rfl)
theorem dX0_asset_14 : decode cX0_asset 14 = .ok (.lconst 0, 1) := dk_9 (dk_at dksX0_asset_0 14 rfl rfl)
theorem dX0_asset_15 : decode cX0_asset 15 = .ok (.ldc2_w 49, 3) := dk_20 0 49 (dk_at dksX0_asset_0 15 rfl rfl)
theorem dX0_asset_18 : decode cX0_asset 18 = .ok (.invokestatic 45, 3) := dk_184 0 45 (dk_at dksX0_asset_0 18 rfl rfl)
theorem dX0_asset_21 : decode cX0_asset 21 = .ok (.ifCond .eq 14, 3) := dk_153 0 14 (dk_at dksX0_asset_0 21 rfl rfl)
theorem dX0_asset_24 : decode cX0_asset 24 = .ok (.aload_n 0, 1) := dk_42 (dk_at dksX0_asset_1 0 rfl rfl)
theorem dX0_asset_25 : decode cX0_asset 25 = .ok (.getfield 10, 3) := dk_180 0 10 (dk_at dksX0_asset_1 1 rfl rfl)
theorem dX0_asset_28 : decode cX0_asset 28 = .ok (.getfield 51, 3) := dk_180 0 51 (dk_at dksX0_asset_1 4 rfl rfl)
theorem dX0_asset_31 : decode cX0_asset 31 = .ok (.iconst 4, 1) := dk_7 (dk_at dksX0_asset_1 7 rfl rfl)
theorem dX0_asset_32 : decode cX0_asset 32 = .ok (.if_icmp .ne 5, 3) := dk_160 0 5 (dk_at dksX0_asset_1 8 rfl rfl)
theorem dX0_asset_35 : decode cX0_asset 35 = .ok (.iconst (-1), 1) := dk_2 (dk_at dksX0_asset_1 11 rfl rfl)
theorem dX0_asset_36 : decode cX0_asset 36 = .ok (.ireturn, 1) := dk_172 (dk_at dksX0_asset_1 12 rfl rfl)
theorem dX0_asset_37 : decode cX0_asset 37 = .ok (.aload_n 0, 1) := dk_42 (dk_at dksX0_asset_1 13 rfl rfl)
theorem dX0_asset_38 : decode cX0_asset 38 = .ok (.invokevirtual 55, 3) := dk_182 0 55 (dk_at dksX0_asset_1 14 rfl rfl)
theorem dX0_asset_41 : decode cX0_asset 41 = .ok (.astore_n 3, 1) := dk_78 (dk_at dksX0_asset_1 17 rfl rfl)
theorem dX0_asset_42 : decode cX0_asset 42 = .ok (.aload_n 3, 1) := dk_45 (dk_at dksX0_asset_1 18 rfl rfl)
theorem dX0_asset_43 : decode cX0_asset 43 = .ok (.getfield 58, 3) := dk_180 0 58 (dk_at dksX0_asset_1 19 rfl rfl)
theorem dX0_asset_46 : decode cX0_asset 46 = .ok (.aload_n 3, 1) := dk_45 (dk_at dksX0_asset_1 22 rfl rfl)
theorem dX0_asset_47 : decode cX0_asset 47 = .ok (.getfield 51, 3) := dk_180 0 51 (dk_at dksX0_asset_2 0 rfl rfl)
theorem dX0_asset_50 : decode cX0_asset 50 = .ok (.aaload, 1) := dk_50 (dk_at dksX0_asset_2 3 rfl rfl)
theorem dX0_asset_51 : decode cX0_asset 51 = .ok (.iconst 0, 1) := dk_3 (dk_at dksX0_asset_2 4 rfl rfl)
theorem dX0_asset_52 : decode cX0_asset 52 = .ok (.iload_n 1, 1) := dk_27 (dk_at dksX0_asset_2 5 rfl rfl)
theorem dX0_asset_53 : decode cX0_asset 53 = .ok (.iastore, 1) := dk_79 (dk_at dksX0_asset_2 6 rfl rfl)
theorem dX0_asset_54 : decode cX0_asset 54 = .ok (.aload_n 3, 1) := dk_45 (dk_at dksX0_asset_2 7 rfl rfl)
theorem dX0_asset_55 : decode cX0_asset 55 = .ok (.getfield 58, 3) := dk_180 0 58 (dk_at dksX0_asset_2 8 rfl rfl)
theorem dX0_asset_58 : decode cX0_asset 58 = .ok (.aload_n 3, 1) := dk_45 (dk_at dksX0_asset_2 11 rfl rfl)
theorem dX0_asset_59 : decode cX0_asset 59 = .ok (.getfield 51, 3) := dk_180 0 51 (dk_at dksX0_asset_2 12 rfl rfl)
theorem dX0_asset_62 : decode cX0_asset 62 = .ok (.aaload, 1) := dk_50 (dk_at dksX0_asset_2 15 rfl rfl)
theorem dX0_asset_63 : decode cX0_asset 63 = .ok (.iconst 1, 1) := dk_4 (dk_at dksX0_asset_2 16 rfl rfl)
theorem dX0_asset_64 : decode cX0_asset 64 = .ok (.iload_n 2, 1) := dk_28 (dk_at dksX0_asset_2 17 rfl rfl)
theorem dX0_asset_65 : decode cX0_asset 65 = .ok (.iastore, 1) := dk_79 (dk_at dksX0_asset_2 18 rfl rfl)
theorem dX0_asset_66 : decode cX0_asset 66 = .ok (.aload_n 3, 1) := dk_45 (dk_at dksX0_asset_2 19 rfl rfl)
theorem dX0_asset_67 : decode cX0_asset 67 = .ok (.dup, 1) := dk_89 (dk_at dksX0_asset_2 20 rfl rfl)
theorem dX0_asset_68 : decode cX0_asset 68 = .ok (.getfield 51, 3) := dk_180 0 51 (dk_at dksX0_asset_2 21 rfl rfl)
theorem dX0_asset_71 : decode cX0_asset 71 = .ok (.iconst 1, 1) := dk_4 (dk_at dksX0_asset_3 0 rfl rfl)
theorem dX0_asset_72 : decode cX0_asset 72 = .ok (.iadd, 1) := dk_96 (dk_at dksX0_asset_3 1 rfl rfl)
theorem dX0_asset_73 : decode cX0_asset 73 = .ok (.putfield 51, 3) := dk_181 0 51 (dk_at dksX0_asset_3 2 rfl rfl)
theorem dX0_asset_76 : decode cX0_asset 76 = .ok (.aload_n 3, 1) := dk_45 (dk_at dksX0_asset_3 5 rfl rfl)
theorem dX0_asset_77 : decode cX0_asset 77 = .ok (.getfield 51, 3) := dk_180 0 51 (dk_at dksX0_asset_3 6 rfl rfl)
theorem dX0_asset_80 : decode cX0_asset 80 = .ok (.iconst 1, 1) := dk_4 (dk_at dksX0_asset_3 9 rfl rfl)
theorem dX0_asset_81 : decode cX0_asset 81 = .ok (.isub, 1) := dk_100 (dk_at dksX0_asset_3 10 rfl rfl)
theorem dX0_asset_82 : decode cX0_asset 82 = .ok (.ireturn, 1) := dk_172 (dk_at dksX0_asset_3 11 rfl rfl)
def dkwX0_in_0 : List UInt8 := [32, 30, 148, 157, 0, 14, 30, 22, 4, 148, 157, 0, 7, 4, 167, 0, 4, 3, 172]
abbrev dktX0_in_0 : List UInt8 := dkwX0_in_0 ++ []
theorem dksX0_in_0 : cX0_in.data.toList.drop 0 = dktX0_in_0 := by decide +kernel
theorem dX0_in_0 : decode cX0_in 0 = .ok (.lload_n 2, 1) := dk_32 (dk_at dksX0_in_0 0 rfl rfl)
theorem dX0_in_1 : decode cX0_in 1 = .ok (.lload_n 0, 1) := dk_30 (dk_at dksX0_in_0 1 rfl rfl)
theorem dX0_in_2 : decode cX0_in 2 = .ok (.lcmp, 1) := dk_148 (dk_at dksX0_in_0 2 rfl rfl)
theorem dX0_in_3 : decode cX0_in 3 = .ok (.ifCond .gt 14, 3) := dk_157 0 14 (dk_at dksX0_in_0 3 rfl rfl)
theorem dX0_in_6 : decode cX0_in 6 = .ok (.lload_n 0, 1) := dk_30 (dk_at dksX0_in_0 6 rfl rfl)
theorem dX0_in_7 : decode cX0_in 7 = .ok (.lload 4, 2) := dk_22 4 (dk_at dksX0_in_0 7 rfl rfl)
theorem dX0_in_9 : decode cX0_in 9 = .ok (.lcmp, 1) := dk_148 (dk_at dksX0_in_0 9 rfl rfl)
theorem dX0_in_10 : decode cX0_in 10 = .ok (.ifCond .gt 7, 3) := dk_157 0 7 (dk_at dksX0_in_0 10 rfl rfl)
theorem dX0_in_13 : decode cX0_in 13 = .ok (.iconst 1, 1) := dk_4 (dk_at dksX0_in_0 13 rfl rfl)
theorem dX0_in_14 : decode cX0_in 14 = .ok (.goto 4, 3) := dk_167 0 4 (dk_at dksX0_in_0 14 rfl rfl)
theorem dX0_in_17 : decode cX0_in 17 = .ok (.iconst 0, 1) := dk_3 (dk_at dksX0_in_0 17 rfl rfl)
theorem dX0_in_18 : decode cX0_in 18 = .ok (.ireturn, 1) := dk_172 (dk_at dksX0_in_0 18 rfl rfl)
def dkwX0_keeps_1 : List UInt8 := [42, 180, 0, 10, 182, 0, 35, 182, 0, 39, 42, 180, 0, 10, 176]
abbrev dktX0_keeps_1 : List UInt8 := dkwX0_keeps_1 ++ []
def dkwX0_keeps_0 : List UInt8 := [42, 180, 0, 19, 182, 0, 27, 16, 12, 160, 0, 11, 42, 180, 0, 19, 182, 0, 31, 87, 42, 180, 0, 19]
abbrev dktX0_keeps_0 : List UInt8 := dkwX0_keeps_0 ++ dktX0_keeps_1
theorem dksX0_keeps_0 : cX0_keeps.data.toList.drop 0 = dktX0_keeps_0 := by decide +kernel
theorem dksX0_keeps_1 : cX0_keeps.data.toList.drop 24 = dktX0_keeps_1 := dk_seg dksX0_keeps_0 24 rfl rfl
theorem dX0_keeps_0 : decode cX0_keeps 0 = .ok (.aload_n 0, 1) := dk_42 (dk_at dksX0_keeps_0 0 rfl rfl)
theorem dX0_keeps_1 : decode cX0_keeps 1 = .ok (.getfield 19, 3) := dk_180 0 19 (dk_at dksX0_keeps_0 1 rfl rfl)
theorem dX0_keeps_4 : decode cX0_keeps 4 = .ok (.invokevirtual 27, 3) := dk_182 0 27 (dk_at dksX0_keeps_0 4 rfl rfl)
theorem dX0_keeps_7 : decode cX0_keeps 7 = .ok (.bipush 12, 2) := dk_16 12 (dk_at dksX0_keeps_0 7 rfl rfl)
theorem dX0_keeps_9 : decode cX0_keeps 9 = .ok (.if_icmp .ne 11, 3) := dk_160 0 11 (dk_at dksX0_keeps_0 9 rfl rfl)
theorem dX0_keeps_12 : decode cX0_keeps 12 = .ok (.aload_n 0, 1) := dk_42 (dk_at dksX0_keeps_0 12 rfl rfl)
theorem dX0_keeps_13 : decode cX0_keeps 13 = .ok (.getfield 19, 3) := dk_180 0 19 (dk_at dksX0_keeps_0 13 rfl rfl)
theorem dX0_keeps_16 : decode cX0_keeps 16 = .ok (.invokevirtual 31, 3) := dk_182 0 31 (dk_at dksX0_keeps_0 16 rfl rfl)
theorem dX0_keeps_19 : decode cX0_keeps 19 = .ok (.pop, 1) := dk_87 (dk_at dksX0_keeps_0 19 rfl rfl)
theorem dX0_keeps_20 : decode cX0_keeps 20 = .ok (.aload_n 0, 1) := dk_42 (dk_at dksX0_keeps_0 20 rfl rfl)
theorem dX0_keeps_21 : decode cX0_keeps 21 = .ok (.getfield 19, 3) := dk_180 0 19 (dk_at dksX0_keeps_0 21 rfl rfl)
theorem dX0_keeps_24 : decode cX0_keeps 24 = .ok (.aload_n 0, 1) := dk_42 (dk_at dksX0_keeps_1 0 rfl rfl)
theorem dX0_keeps_25 : decode cX0_keeps 25 = .ok (.getfield 10, 3) := dk_180 0 10 (dk_at dksX0_keeps_1 1 rfl rfl)
theorem dX0_keeps_28 : decode cX0_keeps 28 = .ok (.invokevirtual 35, 3) := dk_182 0 35 (dk_at dksX0_keeps_1 4 rfl rfl)
theorem dX0_keeps_31 : decode cX0_keeps 31 = .ok (.invokevirtual 39, 3) := dk_182 0 39 (dk_at dksX0_keeps_1 7 rfl rfl)
theorem dX0_keeps_34 : decode cX0_keeps 34 = .ok (.aload_n 0, 1) := dk_42 (dk_at dksX0_keeps_1 10 rfl rfl)
theorem dX0_keeps_35 : decode cX0_keeps 35 = .ok (.getfield 10, 3) := dk_180 0 10 (dk_at dksX0_keeps_1 11 rfl rfl)
theorem dX0_keeps_38 : decode cX0_keeps 38 = .ok (.areturn, 1) := dk_176 (dk_at dksX0_keeps_1 14 rfl rfl)
def dkwX0_house_3 : List UInt8 := [180, 0, 64, 50, 6, 4, 79, 45, 89, 180, 0, 64, 4, 96, 181, 0, 64, 45, 180, 0, 64, 4, 100, 172]
abbrev dktX0_house_3 : List UInt8 := dkwX0_house_3 ++ []
def dkwX0_house_2 : List UInt8 := [180, 0, 64, 50, 3, 27, 79, 45, 180, 0, 67, 45, 180, 0, 64, 50, 4, 28, 79, 45, 180, 0, 67, 45]
abbrev dktX0_house_2 : List UInt8 := dkwX0_house_2 ++ dktX0_house_3
def dkwX0_house_1 : List UInt8 := [42, 180, 0, 10, 180, 0, 64, 16, 6, 160, 0, 5, 2, 172, 42, 182, 0, 55, 78, 45, 180, 0, 67, 45]
abbrev dktX0_house_1 : List UInt8 := dkwX0_house_1 ++ dktX0_house_2
def dkwX0_house_0 : List UInt8 := [27, 133, 9, 20, 0, 62, 184, 0, 45, 153, 0, 27, 28, 133, 9, 20, 0, 62, 184, 0, 45, 153, 0, 15]
abbrev dktX0_house_0 : List UInt8 := dkwX0_house_0 ++ dktX0_house_1
theorem dksX0_house_0 : cX0_house.data.toList.drop 0 = dktX0_house_0 := by decide +kernel
theorem dksX0_house_1 : cX0_house.data.toList.drop 24 = dktX0_house_1 := dk_seg dksX0_house_0 24 rfl rfl
theorem dksX0_house_2 : cX0_house.data.toList.drop 48 = dktX0_house_2 := dk_seg dksX0_house_1 24 rfl rfl
theorem dksX0_house_3 : cX0_house.data.toList.drop 72 = dktX0_house_3 := dk_seg dksX0_house_2 24 rfl rfl
theorem dX0_house_0 : decode cX0_house 0 = .ok (.iload_n 1, 1) := dk_27 (dk_at dksX0_house_0 0 rfl rfl)
theorem dX0_house_1 : decode cX0_house 1 = .ok (.i2l, 1) := dk_133 (dk_at dksX0_house_0 1 rfl rfl)
theorem dX0_house_2 : decode cX0_house 2 = .ok (.lconst 0, 1) := dk_9 (dk_at dksX0_house_0 2 rfl rfl)
theorem dX0_house_3 : decode cX0_house 3 = .ok (.ldc2_w 62, 3) := dk_20 0 62 (dk_at dksX0_house_0 3 rfl rfl)
theorem dX0_house_6 : decode cX0_house 6 = .ok (.invokestatic 45, 3) := dk_184 0 45 (dk_at dksX0_house_0 6 rfl rfl)
theorem dX0_house_9 : decode cX0_house 9 = .ok (.ifCond .eq 27, 3) := dk_153 0 27 (dk_at dksX0_house_0 9 rfl rfl)
theorem dX0_house_12 : decode cX0_house 12 = .ok (.iload_n 2, 1) := dk_28 (dk_at dksX0_house_0 12 rfl rfl)
theorem dX0_house_13 : decode cX0_house 13 = .ok (.i2l, 1) := dk_133 (dk_at dksX0_house_0 13 rfl rfl)
theorem dX0_house_14 : decode cX0_house 14 = .ok (.lconst 0, 1) := dk_9 (dk_at dksX0_house_0 14 rfl rfl)
theorem dX0_house_15 : decode cX0_house 15 = .ok (.ldc2_w 62, 3) := dk_20 0 62 (dk_at dksX0_house_0 15 rfl rfl)
theorem dX0_house_18 : decode cX0_house 18 = .ok (.invokestatic 45, 3) := dk_184 0 45 (dk_at dksX0_house_0 18 rfl rfl)
theorem dX0_house_21 : decode cX0_house 21 = .ok (.ifCond .eq 15, 3) := dk_153 0 15 (dk_at dksX0_house_0 21 rfl rfl)
theorem dX0_house_24 : decode cX0_house 24 = .ok (.aload_n 0, 1) := dk_42 (dk_at dksX0_house_1 0 rfl rfl)
theorem dX0_house_25 : decode cX0_house 25 = .ok (.getfield 10, 3) := dk_180 0 10 (dk_at dksX0_house_1 1 rfl rfl)
theorem dX0_house_28 : decode cX0_house 28 = .ok (.getfield 64, 3) := dk_180 0 64 (dk_at dksX0_house_1 4 rfl rfl)
theorem dX0_house_31 : decode cX0_house 31 = .ok (.bipush 6, 2) := dk_16 6 (dk_at dksX0_house_1 7 rfl rfl)
theorem dX0_house_33 : decode cX0_house 33 = .ok (.if_icmp .ne 5, 3) := dk_160 0 5 (dk_at dksX0_house_1 9 rfl rfl)
theorem dX0_house_36 : decode cX0_house 36 = .ok (.iconst (-1), 1) := dk_2 (dk_at dksX0_house_1 12 rfl rfl)
theorem dX0_house_37 : decode cX0_house 37 = .ok (.ireturn, 1) := dk_172 (dk_at dksX0_house_1 13 rfl rfl)
theorem dX0_house_38 : decode cX0_house 38 = .ok (.aload_n 0, 1) := dk_42 (dk_at dksX0_house_1 14 rfl rfl)
theorem dX0_house_39 : decode cX0_house 39 = .ok (.invokevirtual 55, 3) := dk_182 0 55 (dk_at dksX0_house_1 15 rfl rfl)
theorem dX0_house_42 : decode cX0_house 42 = .ok (.astore_n 3, 1) := dk_78 (dk_at dksX0_house_1 18 rfl rfl)
theorem dX0_house_43 : decode cX0_house 43 = .ok (.aload_n 3, 1) := dk_45 (dk_at dksX0_house_1 19 rfl rfl)
theorem dX0_house_44 : decode cX0_house 44 = .ok (.getfield 67, 3) := dk_180 0 67 (dk_at dksX0_house_1 20 rfl rfl)
theorem dX0_house_47 : decode cX0_house 47 = .ok (.aload_n 3, 1) := dk_45 (dk_at dksX0_house_1 23 rfl rfl)
theorem dX0_house_48 : decode cX0_house 48 = .ok (.getfield 64, 3) := dk_180 0 64 (dk_at dksX0_house_2 0 rfl rfl)
theorem dX0_house_51 : decode cX0_house 51 = .ok (.aaload, 1) := dk_50 (dk_at dksX0_house_2 3 rfl rfl)
theorem dX0_house_52 : decode cX0_house 52 = .ok (.iconst 0, 1) := dk_3 (dk_at dksX0_house_2 4 rfl rfl)
theorem dX0_house_53 : decode cX0_house 53 = .ok (.iload_n 1, 1) := dk_27 (dk_at dksX0_house_2 5 rfl rfl)
theorem dX0_house_54 : decode cX0_house 54 = .ok (.iastore, 1) := dk_79 (dk_at dksX0_house_2 6 rfl rfl)
theorem dX0_house_55 : decode cX0_house 55 = .ok (.aload_n 3, 1) := dk_45 (dk_at dksX0_house_2 7 rfl rfl)
theorem dX0_house_56 : decode cX0_house 56 = .ok (.getfield 67, 3) := dk_180 0 67 (dk_at dksX0_house_2 8 rfl rfl)
theorem dX0_house_59 : decode cX0_house 59 = .ok (.aload_n 3, 1) := dk_45 (dk_at dksX0_house_2 11 rfl rfl)
theorem dX0_house_60 : decode cX0_house 60 = .ok (.getfield 64, 3) := dk_180 0 64 (dk_at dksX0_house_2 12 rfl rfl)
theorem dX0_house_63 : decode cX0_house 63 = .ok (.aaload, 1) := dk_50 (dk_at dksX0_house_2 15 rfl rfl)
theorem dX0_house_64 : decode cX0_house 64 = .ok (.iconst 1, 1) := dk_4 (dk_at dksX0_house_2 16 rfl rfl)
theorem dX0_house_65 : decode cX0_house 65 = .ok (.iload_n 2, 1) := dk_28 (dk_at dksX0_house_2 17 rfl rfl)
theorem dX0_house_66 : decode cX0_house 66 = .ok (.iastore, 1) := dk_79 (dk_at dksX0_house_2 18 rfl rfl)
theorem dX0_house_67 : decode cX0_house 67 = .ok (.aload_n 3, 1) := dk_45 (dk_at dksX0_house_2 19 rfl rfl)
theorem dX0_house_68 : decode cX0_house 68 = .ok (.getfield 67, 3) := dk_180 0 67 (dk_at dksX0_house_2 20 rfl rfl)
theorem dX0_house_71 : decode cX0_house 71 = .ok (.aload_n 3, 1) := dk_45 (dk_at dksX0_house_2 23 rfl rfl)
theorem dX0_house_72 : decode cX0_house 72 = .ok (.getfield 64, 3) := dk_180 0 64 (dk_at dksX0_house_3 0 rfl rfl)
theorem dX0_house_75 : decode cX0_house 75 = .ok (.aaload, 1) := dk_50 (dk_at dksX0_house_3 3 rfl rfl)
theorem dX0_house_76 : decode cX0_house 76 = .ok (.iconst 3, 1) := dk_6 (dk_at dksX0_house_3 4 rfl rfl)
theorem dX0_house_77 : decode cX0_house 77 = .ok (.iconst 1, 1) := dk_4 (dk_at dksX0_house_3 5 rfl rfl)
theorem dX0_house_78 : decode cX0_house 78 = .ok (.iastore, 1) := dk_79 (dk_at dksX0_house_3 6 rfl rfl)
theorem dX0_house_79 : decode cX0_house 79 = .ok (.aload_n 3, 1) := dk_45 (dk_at dksX0_house_3 7 rfl rfl)
theorem dX0_house_80 : decode cX0_house 80 = .ok (.dup, 1) := dk_89 (dk_at dksX0_house_3 8 rfl rfl)
theorem dX0_house_81 : decode cX0_house 81 = .ok (.getfield 64, 3) := dk_180 0 64 (dk_at dksX0_house_3 9 rfl rfl)
theorem dX0_house_84 : decode cX0_house 84 = .ok (.iconst 1, 1) := dk_4 (dk_at dksX0_house_3 12 rfl rfl)
theorem dX0_house_85 : decode cX0_house 85 = .ok (.iadd, 1) := dk_96 (dk_at dksX0_house_3 13 rfl rfl)
theorem dX0_house_86 : decode cX0_house 86 = .ok (.putfield 64, 3) := dk_181 0 64 (dk_at dksX0_house_3 14 rfl rfl)
theorem dX0_house_89 : decode cX0_house 89 = .ok (.aload_n 3, 1) := dk_45 (dk_at dksX0_house_3 17 rfl rfl)
theorem dX0_house_90 : decode cX0_house 90 = .ok (.getfield 64, 3) := dk_180 0 64 (dk_at dksX0_house_3 18 rfl rfl)
theorem dX0_house_93 : decode cX0_house 93 = .ok (.iconst 1, 1) := dk_4 (dk_at dksX0_house_3 21 rfl rfl)
theorem dX0_house_94 : decode cX0_house 94 = .ok (.isub, 1) := dk_100 (dk_at dksX0_house_3 22 rfl rfl)
theorem dX0_house_95 : decode cX0_house 95 = .ok (.ireturn, 1) := dk_172 (dk_at dksX0_house_3 23 rfl rfl)
def dkwX0_set_3 : List UInt8 := [79, 21, 4, 172]
abbrev dktX0_set_3 : List UInt8 := dkwX0_set_3 ++ []
def dkwX0_set_2 : List UInt8 := [42, 180, 0, 10, 180, 0, 67, 27, 50, 28, 46, 54, 4, 42, 182, 0, 55, 180, 0, 67, 27, 50, 28, 29]
abbrev dktX0_set_2 : List UInt8 := dkwX0_set_2 ++ dktX0_set_3
def dkwX0_set_1 : List UInt8 := [29, 184, 0, 78, 153, 0, 18, 42, 180, 0, 10, 180, 0, 67, 27, 50, 28, 46, 29, 160, 0, 5, 2, 172]
abbrev dktX0_set_1 : List UInt8 := dkwX0_set_1 ++ dktX0_set_2
def dkwX0_set_0 : List UInt8 := [42, 180, 0, 10, 27, 182, 0, 72, 153, 0, 38, 28, 133, 9, 20, 0, 76, 184, 0, 45, 153, 0, 26, 28]
abbrev dktX0_set_0 : List UInt8 := dkwX0_set_0 ++ dktX0_set_1
theorem dksX0_set_0 : cX0_set.data.toList.drop 0 = dktX0_set_0 := by decide +kernel
theorem dksX0_set_1 : cX0_set.data.toList.drop 24 = dktX0_set_1 := dk_seg dksX0_set_0 24 rfl rfl
theorem dksX0_set_2 : cX0_set.data.toList.drop 48 = dktX0_set_2 := dk_seg dksX0_set_1 24 rfl rfl
theorem dksX0_set_3 : cX0_set.data.toList.drop 72 = dktX0_set_3 := dk_seg dksX0_set_2 24 rfl rfl
theorem dX0_set_0 : decode cX0_set 0 = .ok (.aload_n 0, 1) := dk_42 (dk_at dksX0_set_0 0 rfl rfl)
theorem dX0_set_1 : decode cX0_set 1 = .ok (.getfield 10, 3) := dk_180 0 10 (dk_at dksX0_set_0 1 rfl rfl)
theorem dX0_set_4 : decode cX0_set 4 = .ok (.iload_n 1, 1) := dk_27 (dk_at dksX0_set_0 4 rfl rfl)
theorem dX0_set_5 : decode cX0_set 5 = .ok (.invokevirtual 72, 3) := dk_182 0 72 (dk_at dksX0_set_0 5 rfl rfl)
theorem dX0_set_8 : decode cX0_set 8 = .ok (.ifCond .eq 38, 3) := dk_153 0 38 (dk_at dksX0_set_0 8 rfl rfl)
theorem dX0_set_11 : decode cX0_set 11 = .ok (.iload_n 2, 1) := dk_28 (dk_at dksX0_set_0 11 rfl rfl)
theorem dX0_set_12 : decode cX0_set 12 = .ok (.i2l, 1) := dk_133 (dk_at dksX0_set_0 12 rfl rfl)
theorem dX0_set_13 : decode cX0_set 13 = .ok (.lconst 0, 1) := dk_9 (dk_at dksX0_set_0 13 rfl rfl)
theorem dX0_set_14 : decode cX0_set 14 = .ok (.ldc2_w 76, 3) := dk_20 0 76 (dk_at dksX0_set_0 14 rfl rfl)
theorem dX0_set_17 : decode cX0_set 17 = .ok (.invokestatic 45, 3) := dk_184 0 45 (dk_at dksX0_set_0 17 rfl rfl)
theorem dX0_set_20 : decode cX0_set 20 = .ok (.ifCond .eq 26, 3) := dk_153 0 26 (dk_at dksX0_set_0 20 rfl rfl)
theorem dX0_set_23 : decode cX0_set 23 = .ok (.iload_n 2, 1) := dk_28 (dk_at dksX0_set_0 23 rfl rfl)
theorem dX0_set_24 : decode cX0_set 24 = .ok (.iload_n 3, 1) := dk_29 (dk_at dksX0_set_1 0 rfl rfl)
theorem dX0_set_25 : decode cX0_set 25 = .ok (.invokestatic 78, 3) := dk_184 0 78 (dk_at dksX0_set_1 1 rfl rfl)
theorem dX0_set_28 : decode cX0_set 28 = .ok (.ifCond .eq 18, 3) := dk_153 0 18 (dk_at dksX0_set_1 4 rfl rfl)
theorem dX0_set_31 : decode cX0_set 31 = .ok (.aload_n 0, 1) := dk_42 (dk_at dksX0_set_1 7 rfl rfl)
theorem dX0_set_32 : decode cX0_set 32 = .ok (.getfield 10, 3) := dk_180 0 10 (dk_at dksX0_set_1 8 rfl rfl)
theorem dX0_set_35 : decode cX0_set 35 = .ok (.getfield 67, 3) := dk_180 0 67 (dk_at dksX0_set_1 11 rfl rfl)
theorem dX0_set_38 : decode cX0_set 38 = .ok (.iload_n 1, 1) := dk_27 (dk_at dksX0_set_1 14 rfl rfl)
theorem dX0_set_39 : decode cX0_set 39 = .ok (.aaload, 1) := dk_50 (dk_at dksX0_set_1 15 rfl rfl)
theorem dX0_set_40 : decode cX0_set 40 = .ok (.iload_n 2, 1) := dk_28 (dk_at dksX0_set_1 16 rfl rfl)
theorem dX0_set_41 : decode cX0_set 41 = .ok (.iaload, 1) := dk_46 (dk_at dksX0_set_1 17 rfl rfl)
theorem dX0_set_42 : decode cX0_set 42 = .ok (.iload_n 3, 1) := dk_29 (dk_at dksX0_set_1 18 rfl rfl)
theorem dX0_set_43 : decode cX0_set 43 = .ok (.if_icmp .ne 5, 3) := dk_160 0 5 (dk_at dksX0_set_1 19 rfl rfl)
theorem dX0_set_46 : decode cX0_set 46 = .ok (.iconst (-1), 1) := dk_2 (dk_at dksX0_set_1 22 rfl rfl)
theorem dX0_set_47 : decode cX0_set 47 = .ok (.ireturn, 1) := dk_172 (dk_at dksX0_set_1 23 rfl rfl)
theorem dX0_set_48 : decode cX0_set 48 = .ok (.aload_n 0, 1) := dk_42 (dk_at dksX0_set_2 0 rfl rfl)
theorem dX0_set_49 : decode cX0_set 49 = .ok (.getfield 10, 3) := dk_180 0 10 (dk_at dksX0_set_2 1 rfl rfl)
theorem dX0_set_52 : decode cX0_set 52 = .ok (.getfield 67, 3) := dk_180 0 67 (dk_at dksX0_set_2 4 rfl rfl)
theorem dX0_set_55 : decode cX0_set 55 = .ok (.iload_n 1, 1) := dk_27 (dk_at dksX0_set_2 7 rfl rfl)
theorem dX0_set_56 : decode cX0_set 56 = .ok (.aaload, 1) := dk_50 (dk_at dksX0_set_2 8 rfl rfl)
theorem dX0_set_57 : decode cX0_set 57 = .ok (.iload_n 2, 1) := dk_28 (dk_at dksX0_set_2 9 rfl rfl)
theorem dX0_set_58 : decode cX0_set 58 = .ok (.iaload, 1) := dk_46 (dk_at dksX0_set_2 10 rfl rfl)
theorem dX0_set_59 : decode cX0_set 59 = .ok (.istore 4, 2) := dk_54 4 (dk_at dksX0_set_2 11 rfl rfl)
theorem dX0_set_61 : decode cX0_set 61 = .ok (.aload_n 0, 1) := dk_42 (dk_at dksX0_set_2 13 rfl rfl)
theorem dX0_set_62 : decode cX0_set 62 = .ok (.invokevirtual 55, 3) := dk_182 0 55 (dk_at dksX0_set_2 14 rfl rfl)
theorem dX0_set_65 : decode cX0_set 65 = .ok (.getfield 67, 3) := dk_180 0 67 (dk_at dksX0_set_2 17 rfl rfl)
theorem dX0_set_68 : decode cX0_set 68 = .ok (.iload_n 1, 1) := dk_27 (dk_at dksX0_set_2 20 rfl rfl)
theorem dX0_set_69 : decode cX0_set 69 = .ok (.aaload, 1) := dk_50 (dk_at dksX0_set_2 21 rfl rfl)
theorem dX0_set_70 : decode cX0_set 70 = .ok (.iload_n 2, 1) := dk_28 (dk_at dksX0_set_2 22 rfl rfl)
theorem dX0_set_71 : decode cX0_set 71 = .ok (.iload_n 3, 1) := dk_29 (dk_at dksX0_set_2 23 rfl rfl)
theorem dX0_set_72 : decode cX0_set 72 = .ok (.iastore, 1) := dk_79 (dk_at dksX0_set_3 0 rfl rfl)
theorem dX0_set_73 : decode cX0_set 73 = .ok (.iload 4, 2) := dk_21 4 (dk_at dksX0_set_3 1 rfl rfl)
theorem dX0_set_75 : decode cX0_set 75 = .ok (.ireturn, 1) := dk_172 (dk_at dksX0_set_3 3 rfl rfl)
def dkwX0_isOf_1 : List UInt8 := [7, 160, 0, 7, 10, 167, 0, 6, 20, 0, 62, 184, 0, 45, 172]
abbrev dktX0_isOf_1 : List UInt8 := dkwX0_isOf_1 ++ []
def dkwX0_isOf_0 : List UInt8 := [27, 133, 26, 6, 160, 0, 7, 10, 167, 0, 4, 9, 26, 6, 160, 0, 9, 20, 0, 70, 167, 0, 15, 26]
abbrev dktX0_isOf_0 : List UInt8 := dkwX0_isOf_0 ++ dktX0_isOf_1
theorem dksX0_isOf_0 : cX0_isOf.data.toList.drop 0 = dktX0_isOf_0 := by decide +kernel
theorem dksX0_isOf_1 : cX0_isOf.data.toList.drop 24 = dktX0_isOf_1 := dk_seg dksX0_isOf_0 24 rfl rfl
theorem dX0_isOf_0 : decode cX0_isOf 0 = .ok (.iload_n 1, 1) := dk_27 (dk_at dksX0_isOf_0 0 rfl rfl)
theorem dX0_isOf_1 : decode cX0_isOf 1 = .ok (.i2l, 1) := dk_133 (dk_at dksX0_isOf_0 1 rfl rfl)
theorem dX0_isOf_2 : decode cX0_isOf 2 = .ok (.iload_n 0, 1) := dk_26 (dk_at dksX0_isOf_0 2 rfl rfl)
theorem dX0_isOf_3 : decode cX0_isOf 3 = .ok (.iconst 3, 1) := dk_6 (dk_at dksX0_isOf_0 3 rfl rfl)
theorem dX0_isOf_4 : decode cX0_isOf 4 = .ok (.if_icmp .ne 7, 3) := dk_160 0 7 (dk_at dksX0_isOf_0 4 rfl rfl)
theorem dX0_isOf_7 : decode cX0_isOf 7 = .ok (.lconst 1, 1) := dk_10 (dk_at dksX0_isOf_0 7 rfl rfl)
theorem dX0_isOf_8 : decode cX0_isOf 8 = .ok (.goto 4, 3) := dk_167 0 4 (dk_at dksX0_isOf_0 8 rfl rfl)
theorem dX0_isOf_11 : decode cX0_isOf 11 = .ok (.lconst 0, 1) := dk_9 (dk_at dksX0_isOf_0 11 rfl rfl)
theorem dX0_isOf_12 : decode cX0_isOf 12 = .ok (.iload_n 0, 1) := dk_26 (dk_at dksX0_isOf_0 12 rfl rfl)
theorem dX0_isOf_13 : decode cX0_isOf 13 = .ok (.iconst 3, 1) := dk_6 (dk_at dksX0_isOf_0 13 rfl rfl)
theorem dX0_isOf_14 : decode cX0_isOf 14 = .ok (.if_icmp .ne 9, 3) := dk_160 0 9 (dk_at dksX0_isOf_0 14 rfl rfl)
theorem dX0_isOf_17 : decode cX0_isOf 17 = .ok (.ldc2_w 70, 3) := dk_20 0 70 (dk_at dksX0_isOf_0 17 rfl rfl)
theorem dX0_isOf_20 : decode cX0_isOf 20 = .ok (.goto 15, 3) := dk_167 0 15 (dk_at dksX0_isOf_0 20 rfl rfl)
theorem dX0_isOf_23 : decode cX0_isOf 23 = .ok (.iload_n 0, 1) := dk_26 (dk_at dksX0_isOf_0 23 rfl rfl)
theorem dX0_isOf_24 : decode cX0_isOf 24 = .ok (.iconst 4, 1) := dk_7 (dk_at dksX0_isOf_1 0 rfl rfl)
theorem dX0_isOf_25 : decode cX0_isOf 25 = .ok (.if_icmp .ne 7, 3) := dk_160 0 7 (dk_at dksX0_isOf_1 1 rfl rfl)
theorem dX0_isOf_28 : decode cX0_isOf 28 = .ok (.lconst 1, 1) := dk_10 (dk_at dksX0_isOf_1 4 rfl rfl)
theorem dX0_isOf_29 : decode cX0_isOf 29 = .ok (.goto 6, 3) := dk_167 0 6 (dk_at dksX0_isOf_1 5 rfl rfl)
theorem dX0_isOf_32 : decode cX0_isOf 32 = .ok (.ldc2_w 62, 3) := dk_20 0 62 (dk_at dksX0_isOf_1 8 rfl rfl)
theorem dX0_isOf_35 : decode cX0_isOf 35 = .ok (.invokestatic 45, 3) := dk_184 0 45 (dk_at dksX0_isOf_1 11 rfl rfl)
theorem dX0_isOf_38 : decode cX0_isOf 38 = .ok (.ireturn, 1) := dk_172 (dk_at dksX0_isOf_1 14 rfl rfl)
def dkwX0_hold_3 : List UInt8 := [180, 0, 87, 27, 50, 28, 29, 79, 21, 4, 172]
abbrev dktX0_hold_3 : List UInt8 := dkwX0_hold_3 ++ []
def dkwX0_hold_2 : List UInt8 := [160, 0, 5, 2, 172, 42, 180, 0, 10, 180, 0, 87, 27, 50, 28, 46, 54, 4, 42, 182, 0, 55]
abbrev dktX0_hold_2 : List UInt8 := dkwX0_hold_2 ++ dktX0_hold_3
def dkwX0_hold_1 : List UInt8 := [9, 20, 0, 85, 184, 0, 45, 153, 0, 18, 42, 180, 0, 10, 180, 0, 87, 27, 50, 28, 46, 29]
abbrev dktX0_hold_1 : List UInt8 := dkwX0_hold_1 ++ dktX0_hold_2
def dkwX0_hold_0 : List UInt8 := [42, 180, 0, 10, 27, 182, 0, 72, 153, 0, 41, 42, 180, 0, 10, 28, 182, 0, 82, 153, 0, 30, 29, 133]
abbrev dktX0_hold_0 : List UInt8 := dkwX0_hold_0 ++ dktX0_hold_1
theorem dksX0_hold_0 : cX0_hold.data.toList.drop 0 = dktX0_hold_0 := by decide +kernel
theorem dksX0_hold_1 : cX0_hold.data.toList.drop 24 = dktX0_hold_1 := dk_seg dksX0_hold_0 24 rfl rfl
theorem dksX0_hold_2 : cX0_hold.data.toList.drop 46 = dktX0_hold_2 := dk_seg dksX0_hold_1 22 rfl rfl
theorem dksX0_hold_3 : cX0_hold.data.toList.drop 68 = dktX0_hold_3 := dk_seg dksX0_hold_2 22 rfl rfl
theorem dX0_hold_0 : decode cX0_hold 0 = .ok (.aload_n 0, 1) := dk_42 (dk_at dksX0_hold_0 0 rfl rfl)
theorem dX0_hold_1 : decode cX0_hold 1 = .ok (.getfield 10, 3) := dk_180 0 10 (dk_at dksX0_hold_0 1 rfl rfl)
theorem dX0_hold_4 : decode cX0_hold 4 = .ok (.iload_n 1, 1) := dk_27 (dk_at dksX0_hold_0 4 rfl rfl)
theorem dX0_hold_5 : decode cX0_hold 5 = .ok (.invokevirtual 72, 3) := dk_182 0 72 (dk_at dksX0_hold_0 5 rfl rfl)
theorem dX0_hold_8 : decode cX0_hold 8 = .ok (.ifCond .eq 41, 3) := dk_153 0 41 (dk_at dksX0_hold_0 8 rfl rfl)
theorem dX0_hold_11 : decode cX0_hold 11 = .ok (.aload_n 0, 1) := dk_42 (dk_at dksX0_hold_0 11 rfl rfl)
theorem dX0_hold_12 : decode cX0_hold 12 = .ok (.getfield 10, 3) := dk_180 0 10 (dk_at dksX0_hold_0 12 rfl rfl)
theorem dX0_hold_15 : decode cX0_hold 15 = .ok (.iload_n 2, 1) := dk_28 (dk_at dksX0_hold_0 15 rfl rfl)
theorem dX0_hold_16 : decode cX0_hold 16 = .ok (.invokevirtual 82, 3) := dk_182 0 82 (dk_at dksX0_hold_0 16 rfl rfl)
theorem dX0_hold_19 : decode cX0_hold 19 = .ok (.ifCond .eq 30, 3) := dk_153 0 30 (dk_at dksX0_hold_0 19 rfl rfl)
theorem dX0_hold_22 : decode cX0_hold 22 = .ok (.iload_n 3, 1) := dk_29 (dk_at dksX0_hold_0 22 rfl rfl)
theorem dX0_hold_23 : decode cX0_hold 23 = .ok (.i2l, 1) := dk_133 (dk_at dksX0_hold_0 23 rfl rfl)
theorem dX0_hold_24 : decode cX0_hold 24 = .ok (.lconst 0, 1) := dk_9 (dk_at dksX0_hold_1 0 rfl rfl)
theorem dX0_hold_25 : decode cX0_hold 25 = .ok (.ldc2_w 85, 3) := dk_20 0 85 (dk_at dksX0_hold_1 1 rfl rfl)
theorem dX0_hold_28 : decode cX0_hold 28 = .ok (.invokestatic 45, 3) := dk_184 0 45 (dk_at dksX0_hold_1 4 rfl rfl)
theorem dX0_hold_31 : decode cX0_hold 31 = .ok (.ifCond .eq 18, 3) := dk_153 0 18 (dk_at dksX0_hold_1 7 rfl rfl)
theorem dX0_hold_34 : decode cX0_hold 34 = .ok (.aload_n 0, 1) := dk_42 (dk_at dksX0_hold_1 10 rfl rfl)
theorem dX0_hold_35 : decode cX0_hold 35 = .ok (.getfield 10, 3) := dk_180 0 10 (dk_at dksX0_hold_1 11 rfl rfl)
theorem dX0_hold_38 : decode cX0_hold 38 = .ok (.getfield 87, 3) := dk_180 0 87 (dk_at dksX0_hold_1 14 rfl rfl)
theorem dX0_hold_41 : decode cX0_hold 41 = .ok (.iload_n 1, 1) := dk_27 (dk_at dksX0_hold_1 17 rfl rfl)
theorem dX0_hold_42 : decode cX0_hold 42 = .ok (.aaload, 1) := dk_50 (dk_at dksX0_hold_1 18 rfl rfl)
theorem dX0_hold_43 : decode cX0_hold 43 = .ok (.iload_n 2, 1) := dk_28 (dk_at dksX0_hold_1 19 rfl rfl)
theorem dX0_hold_44 : decode cX0_hold 44 = .ok (.iaload, 1) := dk_46 (dk_at dksX0_hold_1 20 rfl rfl)
theorem dX0_hold_45 : decode cX0_hold 45 = .ok (.iload_n 3, 1) := dk_29 (dk_at dksX0_hold_1 21 rfl rfl)
theorem dX0_hold_46 : decode cX0_hold 46 = .ok (.if_icmp .ne 5, 3) := dk_160 0 5 (dk_at dksX0_hold_2 0 rfl rfl)
theorem dX0_hold_49 : decode cX0_hold 49 = .ok (.iconst (-1), 1) := dk_2 (dk_at dksX0_hold_2 3 rfl rfl)
theorem dX0_hold_50 : decode cX0_hold 50 = .ok (.ireturn, 1) := dk_172 (dk_at dksX0_hold_2 4 rfl rfl)
theorem dX0_hold_51 : decode cX0_hold 51 = .ok (.aload_n 0, 1) := dk_42 (dk_at dksX0_hold_2 5 rfl rfl)
theorem dX0_hold_52 : decode cX0_hold 52 = .ok (.getfield 10, 3) := dk_180 0 10 (dk_at dksX0_hold_2 6 rfl rfl)
theorem dX0_hold_55 : decode cX0_hold 55 = .ok (.getfield 87, 3) := dk_180 0 87 (dk_at dksX0_hold_2 9 rfl rfl)
theorem dX0_hold_58 : decode cX0_hold 58 = .ok (.iload_n 1, 1) := dk_27 (dk_at dksX0_hold_2 12 rfl rfl)
theorem dX0_hold_59 : decode cX0_hold 59 = .ok (.aaload, 1) := dk_50 (dk_at dksX0_hold_2 13 rfl rfl)
theorem dX0_hold_60 : decode cX0_hold 60 = .ok (.iload_n 2, 1) := dk_28 (dk_at dksX0_hold_2 14 rfl rfl)
theorem dX0_hold_61 : decode cX0_hold 61 = .ok (.iaload, 1) := dk_46 (dk_at dksX0_hold_2 15 rfl rfl)
theorem dX0_hold_62 : decode cX0_hold 62 = .ok (.istore 4, 2) := dk_54 4 (dk_at dksX0_hold_2 16 rfl rfl)
theorem dX0_hold_64 : decode cX0_hold 64 = .ok (.aload_n 0, 1) := dk_42 (dk_at dksX0_hold_2 18 rfl rfl)
theorem dX0_hold_65 : decode cX0_hold 65 = .ok (.invokevirtual 55, 3) := dk_182 0 55 (dk_at dksX0_hold_2 19 rfl rfl)
theorem dX0_hold_68 : decode cX0_hold 68 = .ok (.getfield 87, 3) := dk_180 0 87 (dk_at dksX0_hold_3 0 rfl rfl)
theorem dX0_hold_71 : decode cX0_hold 71 = .ok (.iload_n 1, 1) := dk_27 (dk_at dksX0_hold_3 3 rfl rfl)
theorem dX0_hold_72 : decode cX0_hold 72 = .ok (.aaload, 1) := dk_50 (dk_at dksX0_hold_3 4 rfl rfl)
theorem dX0_hold_73 : decode cX0_hold 73 = .ok (.iload_n 2, 1) := dk_28 (dk_at dksX0_hold_3 5 rfl rfl)
theorem dX0_hold_74 : decode cX0_hold 74 = .ok (.iload_n 3, 1) := dk_29 (dk_at dksX0_hold_3 6 rfl rfl)
theorem dX0_hold_75 : decode cX0_hold 75 = .ok (.iastore, 1) := dk_79 (dk_at dksX0_hold_3 7 rfl rfl)
theorem dX0_hold_76 : decode cX0_hold 76 = .ok (.iload 4, 2) := dk_21 4 (dk_at dksX0_hold_3 8 rfl rfl)
theorem dX0_hold_78 : decode cX0_hold 78 = .ok (.ireturn, 1) := dk_172 (dk_at dksX0_hold_3 10 rfl rfl)
def dkwX0_loan_3 : List UInt8 := [182, 0, 55, 180, 0, 92, 27, 50, 28, 29, 79, 21, 4, 172]
abbrev dktX0_loan_3 : List UInt8 := dkwX0_loan_3 ++ []
def dkwX0_loan_2 : List UInt8 := [28, 46, 29, 160, 0, 5, 2, 172, 42, 180, 0, 10, 180, 0, 92, 27, 50, 28, 46, 54, 4, 42]
abbrev dktX0_loan_2 : List UInt8 := dkwX0_loan_2 ++ dktX0_loan_3
def dkwX0_loan_1 : List UInt8 := [159, 0, 30, 29, 133, 9, 20, 0, 90, 184, 0, 45, 153, 0, 18, 42, 180, 0, 10, 180, 0, 92, 27, 50]
abbrev dktX0_loan_1 : List UInt8 := dkwX0_loan_1 ++ dktX0_loan_2
def dkwX0_loan_0 : List UInt8 := [42, 180, 0, 10, 27, 182, 0, 72, 153, 0, 46, 42, 180, 0, 10, 28, 182, 0, 72, 153, 0, 35, 27, 28]
abbrev dktX0_loan_0 : List UInt8 := dkwX0_loan_0 ++ dktX0_loan_1
theorem dksX0_loan_0 : cX0_loan.data.toList.drop 0 = dktX0_loan_0 := by decide +kernel
theorem dksX0_loan_1 : cX0_loan.data.toList.drop 24 = dktX0_loan_1 := dk_seg dksX0_loan_0 24 rfl rfl
theorem dksX0_loan_2 : cX0_loan.data.toList.drop 48 = dktX0_loan_2 := dk_seg dksX0_loan_1 24 rfl rfl
theorem dksX0_loan_3 : cX0_loan.data.toList.drop 70 = dktX0_loan_3 := dk_seg dksX0_loan_2 22 rfl rfl
theorem dX0_loan_0 : decode cX0_loan 0 = .ok (.aload_n 0, 1) := dk_42 (dk_at dksX0_loan_0 0 rfl rfl)
theorem dX0_loan_1 : decode cX0_loan 1 = .ok (.getfield 10, 3) := dk_180 0 10 (dk_at dksX0_loan_0 1 rfl rfl)
theorem dX0_loan_4 : decode cX0_loan 4 = .ok (.iload_n 1, 1) := dk_27 (dk_at dksX0_loan_0 4 rfl rfl)
theorem dX0_loan_5 : decode cX0_loan 5 = .ok (.invokevirtual 72, 3) := dk_182 0 72 (dk_at dksX0_loan_0 5 rfl rfl)
theorem dX0_loan_8 : decode cX0_loan 8 = .ok (.ifCond .eq 46, 3) := dk_153 0 46 (dk_at dksX0_loan_0 8 rfl rfl)
theorem dX0_loan_11 : decode cX0_loan 11 = .ok (.aload_n 0, 1) := dk_42 (dk_at dksX0_loan_0 11 rfl rfl)
theorem dX0_loan_12 : decode cX0_loan 12 = .ok (.getfield 10, 3) := dk_180 0 10 (dk_at dksX0_loan_0 12 rfl rfl)
theorem dX0_loan_15 : decode cX0_loan 15 = .ok (.iload_n 2, 1) := dk_28 (dk_at dksX0_loan_0 15 rfl rfl)
theorem dX0_loan_16 : decode cX0_loan 16 = .ok (.invokevirtual 72, 3) := dk_182 0 72 (dk_at dksX0_loan_0 16 rfl rfl)
theorem dX0_loan_19 : decode cX0_loan 19 = .ok (.ifCond .eq 35, 3) := dk_153 0 35 (dk_at dksX0_loan_0 19 rfl rfl)
theorem dX0_loan_22 : decode cX0_loan 22 = .ok (.iload_n 1, 1) := dk_27 (dk_at dksX0_loan_0 22 rfl rfl)
theorem dX0_loan_23 : decode cX0_loan 23 = .ok (.iload_n 2, 1) := dk_28 (dk_at dksX0_loan_0 23 rfl rfl)
theorem dX0_loan_24 : decode cX0_loan 24 = .ok (.if_icmp .eq 30, 3) := dk_159 0 30 (dk_at dksX0_loan_1 0 rfl rfl)
theorem dX0_loan_27 : decode cX0_loan 27 = .ok (.iload_n 3, 1) := dk_29 (dk_at dksX0_loan_1 3 rfl rfl)
theorem dX0_loan_28 : decode cX0_loan 28 = .ok (.i2l, 1) := dk_133 (dk_at dksX0_loan_1 4 rfl rfl)
theorem dX0_loan_29 : decode cX0_loan 29 = .ok (.lconst 0, 1) := dk_9 (dk_at dksX0_loan_1 5 rfl rfl)
theorem dX0_loan_30 : decode cX0_loan 30 = .ok (.ldc2_w 90, 3) := dk_20 0 90 (dk_at dksX0_loan_1 6 rfl rfl)
theorem dX0_loan_33 : decode cX0_loan 33 = .ok (.invokestatic 45, 3) := dk_184 0 45 (dk_at dksX0_loan_1 9 rfl rfl)
theorem dX0_loan_36 : decode cX0_loan 36 = .ok (.ifCond .eq 18, 3) := dk_153 0 18 (dk_at dksX0_loan_1 12 rfl rfl)
theorem dX0_loan_39 : decode cX0_loan 39 = .ok (.aload_n 0, 1) := dk_42 (dk_at dksX0_loan_1 15 rfl rfl)
theorem dX0_loan_40 : decode cX0_loan 40 = .ok (.getfield 10, 3) := dk_180 0 10 (dk_at dksX0_loan_1 16 rfl rfl)
theorem dX0_loan_43 : decode cX0_loan 43 = .ok (.getfield 92, 3) := dk_180 0 92 (dk_at dksX0_loan_1 19 rfl rfl)
theorem dX0_loan_46 : decode cX0_loan 46 = .ok (.iload_n 1, 1) := dk_27 (dk_at dksX0_loan_1 22 rfl rfl)
theorem dX0_loan_47 : decode cX0_loan 47 = .ok (.aaload, 1) := dk_50 (dk_at dksX0_loan_1 23 rfl rfl)
theorem dX0_loan_48 : decode cX0_loan 48 = .ok (.iload_n 2, 1) := dk_28 (dk_at dksX0_loan_2 0 rfl rfl)
theorem dX0_loan_49 : decode cX0_loan 49 = .ok (.iaload, 1) := dk_46 (dk_at dksX0_loan_2 1 rfl rfl)
theorem dX0_loan_50 : decode cX0_loan 50 = .ok (.iload_n 3, 1) := dk_29 (dk_at dksX0_loan_2 2 rfl rfl)
theorem dX0_loan_51 : decode cX0_loan 51 = .ok (.if_icmp .ne 5, 3) := dk_160 0 5 (dk_at dksX0_loan_2 3 rfl rfl)
theorem dX0_loan_54 : decode cX0_loan 54 = .ok (.iconst (-1), 1) := dk_2 (dk_at dksX0_loan_2 6 rfl rfl)
theorem dX0_loan_55 : decode cX0_loan 55 = .ok (.ireturn, 1) := dk_172 (dk_at dksX0_loan_2 7 rfl rfl)
theorem dX0_loan_56 : decode cX0_loan 56 = .ok (.aload_n 0, 1) := dk_42 (dk_at dksX0_loan_2 8 rfl rfl)
theorem dX0_loan_57 : decode cX0_loan 57 = .ok (.getfield 10, 3) := dk_180 0 10 (dk_at dksX0_loan_2 9 rfl rfl)
theorem dX0_loan_60 : decode cX0_loan 60 = .ok (.getfield 92, 3) := dk_180 0 92 (dk_at dksX0_loan_2 12 rfl rfl)
theorem dX0_loan_63 : decode cX0_loan 63 = .ok (.iload_n 1, 1) := dk_27 (dk_at dksX0_loan_2 15 rfl rfl)
theorem dX0_loan_64 : decode cX0_loan 64 = .ok (.aaload, 1) := dk_50 (dk_at dksX0_loan_2 16 rfl rfl)
theorem dX0_loan_65 : decode cX0_loan 65 = .ok (.iload_n 2, 1) := dk_28 (dk_at dksX0_loan_2 17 rfl rfl)
theorem dX0_loan_66 : decode cX0_loan 66 = .ok (.iaload, 1) := dk_46 (dk_at dksX0_loan_2 18 rfl rfl)
theorem dX0_loan_67 : decode cX0_loan 67 = .ok (.istore 4, 2) := dk_54 4 (dk_at dksX0_loan_2 19 rfl rfl)
theorem dX0_loan_69 : decode cX0_loan 69 = .ok (.aload_n 0, 1) := dk_42 (dk_at dksX0_loan_2 21 rfl rfl)
theorem dX0_loan_70 : decode cX0_loan 70 = .ok (.invokevirtual 55, 3) := dk_182 0 55 (dk_at dksX0_loan_3 0 rfl rfl)
theorem dX0_loan_73 : decode cX0_loan 73 = .ok (.getfield 92, 3) := dk_180 0 92 (dk_at dksX0_loan_3 3 rfl rfl)
theorem dX0_loan_76 : decode cX0_loan 76 = .ok (.iload_n 1, 1) := dk_27 (dk_at dksX0_loan_3 6 rfl rfl)
theorem dX0_loan_77 : decode cX0_loan 77 = .ok (.aaload, 1) := dk_50 (dk_at dksX0_loan_3 7 rfl rfl)
theorem dX0_loan_78 : decode cX0_loan 78 = .ok (.iload_n 2, 1) := dk_28 (dk_at dksX0_loan_3 8 rfl rfl)
theorem dX0_loan_79 : decode cX0_loan 79 = .ok (.iload_n 3, 1) := dk_29 (dk_at dksX0_loan_3 9 rfl rfl)
theorem dX0_loan_80 : decode cX0_loan 80 = .ok (.iastore, 1) := dk_79 (dk_at dksX0_loan_3 10 rfl rfl)
theorem dX0_loan_81 : decode cX0_loan 81 = .ok (.iload 4, 2) := dk_21 4 (dk_at dksX0_loan_3 11 rfl rfl)
theorem dX0_loan_83 : decode cX0_loan 83 = .ok (.ireturn, 1) := dk_172 (dk_at dksX0_loan_3 13 rfl rfl)
def dkwX0_curve_3 : List UInt8 := [180, 0, 58, 27, 50, 28, 46, 54, 4, 42, 182, 0, 55, 180, 0, 58, 27, 50, 28, 29, 79, 21, 4, 172]
abbrev dktX0_curve_3 : List UInt8 := dkwX0_curve_3 ++ []
def dkwX0_curve_2 : List UInt8 := [153, 0, 18, 42, 180, 0, 10, 180, 0, 58, 27, 50, 28, 46, 29, 160, 0, 5, 2, 172, 42, 180, 0, 10]
abbrev dktX0_curve_2 : List UInt8 := dkwX0_curve_2 ++ dktX0_curve_3
def dkwX0_curve_1 : List UInt8 := [154, 0, 7, 10, 167, 0, 4, 9, 28, 154, 0, 9, 20, 0, 43, 167, 0, 6, 20, 0, 49, 184, 0, 45]
abbrev dktX0_curve_1 : List UInt8 := dkwX0_curve_1 ++ dktX0_curve_2
def dkwX0_curve_0 : List UInt8 := [42, 180, 0, 10, 27, 182, 0, 82, 153, 0, 58, 28, 133, 9, 10, 184, 0, 45, 153, 0, 48, 29, 133, 28]
abbrev dktX0_curve_0 : List UInt8 := dkwX0_curve_0 ++ dktX0_curve_1
theorem dksX0_curve_0 : cX0_curve.data.toList.drop 0 = dktX0_curve_0 := by decide +kernel
theorem dksX0_curve_1 : cX0_curve.data.toList.drop 24 = dktX0_curve_1 := dk_seg dksX0_curve_0 24 rfl rfl
theorem dksX0_curve_2 : cX0_curve.data.toList.drop 48 = dktX0_curve_2 := dk_seg dksX0_curve_1 24 rfl rfl
theorem dksX0_curve_3 : cX0_curve.data.toList.drop 72 = dktX0_curve_3 := dk_seg dksX0_curve_2 24 rfl rfl
theorem dX0_curve_0 : decode cX0_curve 0 = .ok (.aload_n 0, 1) := dk_42 (dk_at dksX0_curve_0 0 rfl rfl)
theorem dX0_curve_1 : decode cX0_curve 1 = .ok (.getfield 10, 3) := dk_180 0 10 (dk_at dksX0_curve_0 1 rfl rfl)
theorem dX0_curve_4 : decode cX0_curve 4 = .ok (.iload_n 1, 1) := dk_27 (dk_at dksX0_curve_0 4 rfl rfl)
theorem dX0_curve_5 : decode cX0_curve 5 = .ok (.invokevirtual 82, 3) := dk_182 0 82 (dk_at dksX0_curve_0 5 rfl rfl)
theorem dX0_curve_8 : decode cX0_curve 8 = .ok (.ifCond .eq 58, 3) := dk_153 0 58 (dk_at dksX0_curve_0 8 rfl rfl)
theorem dX0_curve_11 : decode cX0_curve 11 = .ok (.iload_n 2, 1) := dk_28 (dk_at dksX0_curve_0 11 rfl rfl)
theorem dX0_curve_12 : decode cX0_curve 12 = .ok (.i2l, 1) := dk_133 (dk_at dksX0_curve_0 12 rfl rfl)
theorem dX0_curve_13 : decode cX0_curve 13 = .ok (.lconst 0, 1) := dk_9 (dk_at dksX0_curve_0 13 rfl rfl)
theorem dX0_curve_14 : decode cX0_curve 14 = .ok (.lconst 1, 1) := dk_10 (dk_at dksX0_curve_0 14 rfl rfl)
theorem dX0_curve_15 : decode cX0_curve 15 = .ok (.invokestatic 45, 3) := dk_184 0 45 (dk_at dksX0_curve_0 15 rfl rfl)
theorem dX0_curve_18 : decode cX0_curve 18 = .ok (.ifCond .eq 48, 3) := dk_153 0 48 (dk_at dksX0_curve_0 18 rfl rfl)
theorem dX0_curve_21 : decode cX0_curve 21 = .ok (.iload_n 3, 1) := dk_29 (dk_at dksX0_curve_0 21 rfl rfl)
theorem dX0_curve_22 : decode cX0_curve 22 = .ok (.i2l, 1) := dk_133 (dk_at dksX0_curve_0 22 rfl rfl)
theorem dX0_curve_23 : decode cX0_curve 23 = .ok (.iload_n 2, 1) := dk_28 (dk_at dksX0_curve_0 23 rfl rfl)
theorem dX0_curve_24 : decode cX0_curve 24 = .ok (.ifCond .ne 7, 3) := dk_154 0 7 (dk_at dksX0_curve_1 0 rfl rfl)
theorem dX0_curve_27 : decode cX0_curve 27 = .ok (.lconst 1, 1) := dk_10 (dk_at dksX0_curve_1 3 rfl rfl)
theorem dX0_curve_28 : decode cX0_curve 28 = .ok (.goto 4, 3) := dk_167 0 4 (dk_at dksX0_curve_1 4 rfl rfl)
theorem dX0_curve_31 : decode cX0_curve 31 = .ok (.lconst 0, 1) := dk_9 (dk_at dksX0_curve_1 7 rfl rfl)
theorem dX0_curve_32 : decode cX0_curve 32 = .ok (.iload_n 2, 1) := dk_28 (dk_at dksX0_curve_1 8 rfl rfl)
theorem dX0_curve_33 : decode cX0_curve 33 = .ok (.ifCond .ne 9, 3) := dk_154 0 9 (dk_at dksX0_curve_1 9 rfl rfl)
theorem dX0_curve_36 : decode cX0_curve 36 = .ok (.ldc2_w 43, 3) := dk_20 0 43 (dk_at dksX0_curve_1 12 rfl rfl)
theorem dX0_curve_39 : decode cX0_curve 39 = .ok (.goto 6, 3) := dk_167 0 6 (dk_at dksX0_curve_1 15 rfl rfl)
theorem dX0_curve_42 : decode cX0_curve 42 = .ok (.ldc2_w 49, 3) := dk_20 0 49 (dk_at dksX0_curve_1 18 rfl rfl)
theorem dX0_curve_45 : decode cX0_curve 45 = .ok (.invokestatic 45, 3) := dk_184 0 45 (dk_at dksX0_curve_1 21 rfl rfl)
theorem dX0_curve_48 : decode cX0_curve 48 = .ok (.ifCond .eq 18, 3) := dk_153 0 18 (dk_at dksX0_curve_2 0 rfl rfl)
theorem dX0_curve_51 : decode cX0_curve 51 = .ok (.aload_n 0, 1) := dk_42 (dk_at dksX0_curve_2 3 rfl rfl)
theorem dX0_curve_52 : decode cX0_curve 52 = .ok (.getfield 10, 3) := dk_180 0 10 (dk_at dksX0_curve_2 4 rfl rfl)
theorem dX0_curve_55 : decode cX0_curve 55 = .ok (.getfield 58, 3) := dk_180 0 58 (dk_at dksX0_curve_2 7 rfl rfl)
theorem dX0_curve_58 : decode cX0_curve 58 = .ok (.iload_n 1, 1) := dk_27 (dk_at dksX0_curve_2 10 rfl rfl)
theorem dX0_curve_59 : decode cX0_curve 59 = .ok (.aaload, 1) := dk_50 (dk_at dksX0_curve_2 11 rfl rfl)
theorem dX0_curve_60 : decode cX0_curve 60 = .ok (.iload_n 2, 1) := dk_28 (dk_at dksX0_curve_2 12 rfl rfl)
theorem dX0_curve_61 : decode cX0_curve 61 = .ok (.iaload, 1) := dk_46 (dk_at dksX0_curve_2 13 rfl rfl)
theorem dX0_curve_62 : decode cX0_curve 62 = .ok (.iload_n 3, 1) := dk_29 (dk_at dksX0_curve_2 14 rfl rfl)
theorem dX0_curve_63 : decode cX0_curve 63 = .ok (.if_icmp .ne 5, 3) := dk_160 0 5 (dk_at dksX0_curve_2 15 rfl rfl)
theorem dX0_curve_66 : decode cX0_curve 66 = .ok (.iconst (-1), 1) := dk_2 (dk_at dksX0_curve_2 18 rfl rfl)
theorem dX0_curve_67 : decode cX0_curve 67 = .ok (.ireturn, 1) := dk_172 (dk_at dksX0_curve_2 19 rfl rfl)
theorem dX0_curve_68 : decode cX0_curve 68 = .ok (.aload_n 0, 1) := dk_42 (dk_at dksX0_curve_2 20 rfl rfl)
theorem dX0_curve_69 : decode cX0_curve 69 = .ok (.getfield 10, 3) := dk_180 0 10 (dk_at dksX0_curve_2 21 rfl rfl)
theorem dX0_curve_72 : decode cX0_curve 72 = .ok (.getfield 58, 3) := dk_180 0 58 (dk_at dksX0_curve_3 0 rfl rfl)
theorem dX0_curve_75 : decode cX0_curve 75 = .ok (.iload_n 1, 1) := dk_27 (dk_at dksX0_curve_3 3 rfl rfl)
theorem dX0_curve_76 : decode cX0_curve 76 = .ok (.aaload, 1) := dk_50 (dk_at dksX0_curve_3 4 rfl rfl)
theorem dX0_curve_77 : decode cX0_curve 77 = .ok (.iload_n 2, 1) := dk_28 (dk_at dksX0_curve_3 5 rfl rfl)
theorem dX0_curve_78 : decode cX0_curve 78 = .ok (.iaload, 1) := dk_46 (dk_at dksX0_curve_3 6 rfl rfl)
theorem dX0_curve_79 : decode cX0_curve 79 = .ok (.istore 4, 2) := dk_54 4 (dk_at dksX0_curve_3 7 rfl rfl)
theorem dX0_curve_81 : decode cX0_curve 81 = .ok (.aload_n 0, 1) := dk_42 (dk_at dksX0_curve_3 9 rfl rfl)
theorem dX0_curve_82 : decode cX0_curve 82 = .ok (.invokevirtual 55, 3) := dk_182 0 55 (dk_at dksX0_curve_3 10 rfl rfl)
theorem dX0_curve_85 : decode cX0_curve 85 = .ok (.getfield 58, 3) := dk_180 0 58 (dk_at dksX0_curve_3 13 rfl rfl)
theorem dX0_curve_88 : decode cX0_curve 88 = .ok (.iload_n 1, 1) := dk_27 (dk_at dksX0_curve_3 16 rfl rfl)
theorem dX0_curve_89 : decode cX0_curve 89 = .ok (.aaload, 1) := dk_50 (dk_at dksX0_curve_3 17 rfl rfl)
theorem dX0_curve_90 : decode cX0_curve 90 = .ok (.iload_n 2, 1) := dk_28 (dk_at dksX0_curve_3 18 rfl rfl)
theorem dX0_curve_91 : decode cX0_curve 91 = .ok (.iload_n 3, 1) := dk_29 (dk_at dksX0_curve_3 19 rfl rfl)
theorem dX0_curve_92 : decode cX0_curve 92 = .ok (.iastore, 1) := dk_79 (dk_at dksX0_curve_3 20 rfl rfl)
theorem dX0_curve_93 : decode cX0_curve 93 = .ok (.iload 4, 2) := dk_21 4 (dk_at dksX0_curve_3 21 rfl rfl)
theorem dX0_curve_95 : decode cX0_curve 95 = .ok (.ireturn, 1) := dk_172 (dk_at dksX0_curve_3 23 rfl rfl)
def dkwX0_lay_6 : List UInt8 := [182, 0, 120, 172]
abbrev dktX0_lay_6 : List UInt8 := dkwX0_lay_6 ++ []
def dkwX0_lay_5 : List UInt8 := [50, 180, 0, 117, 7, 160, 0, 8, 16, 253, 167, 0, 17, 42, 182, 0, 55, 180, 0, 107, 27, 50, 25, 5]
abbrev dktX0_lay_5 : List UInt8 := dkwX0_lay_5 ++ dktX0_lay_6
def dkwX0_lay_4 : List UInt8 := [180, 0, 107, 27, 50, 25, 5, 182, 0, 111, 154, 0, 6, 16, 254, 172, 42, 180, 0, 10, 180, 0, 107, 27]
abbrev dktX0_lay_4 : List UInt8 := dkwX0_lay_4 ++ dktX0_lay_5
def dkwX0_lay_3 : List UInt8 := [183, 0, 101, 167, 0, 13, 187, 0, 104, 89, 29, 21, 4, 183, 0, 106, 58, 5, 42, 180, 0, 10]
abbrev dktX0_lay_3 : List UInt8 := dkwX0_lay_3 ++ dktX0_lay_4
def dkwX0_lay_2 : List UInt8 := [20, 0, 43, 184, 0, 45, 154, 0, 5, 2, 172, 28, 154, 0, 16, 187, 0, 99, 89, 29, 21, 4]
abbrev dktX0_lay_2 : List UInt8 := dkwX0_lay_2 ++ dktX0_lay_3
def dkwX0_lay_1 : List UInt8 := [180, 0, 10, 29, 182, 0, 82, 153, 0, 26, 21, 4, 133, 9, 28, 154, 0, 9, 20, 0, 97, 167, 0, 6]
abbrev dktX0_lay_1 : List UInt8 := dkwX0_lay_1 ++ dktX0_lay_2
def dkwX0_lay_0 : List UInt8 := [27, 133, 9, 20, 0, 95, 184, 0, 45, 153, 0, 47, 28, 133, 9, 10, 184, 0, 45, 153, 0, 37, 42]
abbrev dktX0_lay_0 : List UInt8 := dkwX0_lay_0 ++ dktX0_lay_1
theorem dksX0_lay_0 : cX0_lay.data.toList.drop 0 = dktX0_lay_0 := by decide +kernel
theorem dksX0_lay_1 : cX0_lay.data.toList.drop 23 = dktX0_lay_1 := dk_seg dksX0_lay_0 23 rfl rfl
theorem dksX0_lay_2 : cX0_lay.data.toList.drop 47 = dktX0_lay_2 := dk_seg dksX0_lay_1 24 rfl rfl
theorem dksX0_lay_3 : cX0_lay.data.toList.drop 69 = dktX0_lay_3 := dk_seg dksX0_lay_2 22 rfl rfl
theorem dksX0_lay_4 : cX0_lay.data.toList.drop 91 = dktX0_lay_4 := dk_seg dksX0_lay_3 22 rfl rfl
theorem dksX0_lay_5 : cX0_lay.data.toList.drop 115 = dktX0_lay_5 := dk_seg dksX0_lay_4 24 rfl rfl
theorem dksX0_lay_6 : cX0_lay.data.toList.drop 139 = dktX0_lay_6 := dk_seg dksX0_lay_5 24 rfl rfl
theorem dX0_lay_0 : decode cX0_lay 0 = .ok (.iload_n 1, 1) := dk_27 (dk_at dksX0_lay_0 0 rfl rfl)
theorem dX0_lay_1 : decode cX0_lay 1 = .ok (.i2l, 1) := dk_133 (dk_at dksX0_lay_0 1 rfl rfl)
theorem dX0_lay_2 : decode cX0_lay 2 = .ok (.lconst 0, 1) := dk_9 (dk_at dksX0_lay_0 2 rfl rfl)
theorem dX0_lay_3 : decode cX0_lay 3 = .ok (.ldc2_w 95, 3) := dk_20 0 95 (dk_at dksX0_lay_0 3 rfl rfl)
theorem dX0_lay_6 : decode cX0_lay 6 = .ok (.invokestatic 45, 3) := dk_184 0 45 (dk_at dksX0_lay_0 6 rfl rfl)
theorem dX0_lay_9 : decode cX0_lay 9 = .ok (.ifCond .eq 47, 3) := dk_153 0 47 (dk_at dksX0_lay_0 9 rfl rfl)
theorem dX0_lay_12 : decode cX0_lay 12 = .ok (.iload_n 2, 1) := dk_28 (dk_at dksX0_lay_0 12 rfl rfl)
theorem dX0_lay_13 : decode cX0_lay 13 = .ok (.i2l, 1) := dk_133 (dk_at dksX0_lay_0 13 rfl rfl)
theorem dX0_lay_14 : decode cX0_lay 14 = .ok (.lconst 0, 1) := dk_9 (dk_at dksX0_lay_0 14 rfl rfl)
theorem dX0_lay_15 : decode cX0_lay 15 = .ok (.lconst 1, 1) := dk_10 (dk_at dksX0_lay_0 15 rfl rfl)
theorem dX0_lay_16 : decode cX0_lay 16 = .ok (.invokestatic 45, 3) := dk_184 0 45 (dk_at dksX0_lay_0 16 rfl rfl)
theorem dX0_lay_19 : decode cX0_lay 19 = .ok (.ifCond .eq 37, 3) := dk_153 0 37 (dk_at dksX0_lay_0 19 rfl rfl)
theorem dX0_lay_22 : decode cX0_lay 22 = .ok (.aload_n 0, 1) := dk_42 (dk_at dksX0_lay_0 22 rfl rfl)
theorem dX0_lay_23 : decode cX0_lay 23 = .ok (.getfield 10, 3) := dk_180 0 10 (dk_at dksX0_lay_1 0 rfl rfl)
theorem dX0_lay_26 : decode cX0_lay 26 = .ok (.iload_n 3, 1) := dk_29 (dk_at dksX0_lay_1 3 rfl rfl)
theorem dX0_lay_27 : decode cX0_lay 27 = .ok (.invokevirtual 82, 3) := dk_182 0 82 (dk_at dksX0_lay_1 4 rfl rfl)
theorem dX0_lay_30 : decode cX0_lay 30 = .ok (.ifCond .eq 26, 3) := dk_153 0 26 (dk_at dksX0_lay_1 7 rfl rfl)
theorem dX0_lay_33 : decode cX0_lay 33 = .ok (.iload 4, 2) := dk_21 4 (dk_at dksX0_lay_1 10 rfl rfl)
theorem dX0_lay_35 : decode cX0_lay 35 = .ok (.i2l, 1) := dk_133 (dk_at dksX0_lay_1 12 rfl rfl)
theorem dX0_lay_36 : decode cX0_lay 36 = .ok (.lconst 0, 1) := dk_9 (dk_at dksX0_lay_1 13 rfl rfl)
theorem dX0_lay_37 : decode cX0_lay 37 = .ok (.iload_n 2, 1) := dk_28 (dk_at dksX0_lay_1 14 rfl rfl)
theorem dX0_lay_38 : decode cX0_lay 38 = .ok (.ifCond .ne 9, 3) := dk_154 0 9 (dk_at dksX0_lay_1 15 rfl rfl)
theorem dX0_lay_41 : decode cX0_lay 41 = .ok (.ldc2_w 97, 3) := dk_20 0 97 (dk_at dksX0_lay_1 18 rfl rfl)
theorem dX0_lay_44 : decode cX0_lay 44 = .ok (.goto 6, 3) := dk_167 0 6 (dk_at dksX0_lay_1 21 rfl rfl)
theorem dX0_lay_47 : decode cX0_lay 47 = .ok (.ldc2_w 43, 3) := dk_20 0 43 (dk_at dksX0_lay_2 0 rfl rfl)
theorem dX0_lay_50 : decode cX0_lay 50 = .ok (.invokestatic 45, 3) := dk_184 0 45 (dk_at dksX0_lay_2 3 rfl rfl)
theorem dX0_lay_53 : decode cX0_lay 53 = .ok (.ifCond .ne 5, 3) := dk_154 0 5 (dk_at dksX0_lay_2 6 rfl rfl)
theorem dX0_lay_56 : decode cX0_lay 56 = .ok (.iconst (-1), 1) := dk_2 (dk_at dksX0_lay_2 9 rfl rfl)
theorem dX0_lay_57 : decode cX0_lay 57 = .ok (.ireturn, 1) := dk_172 (dk_at dksX0_lay_2 10 rfl rfl)
theorem dX0_lay_58 : decode cX0_lay 58 = .ok (.iload_n 2, 1) := dk_28 (dk_at dksX0_lay_2 11 rfl rfl)
theorem dX0_lay_59 : decode cX0_lay 59 = .ok (.ifCond .ne 16, 3) := dk_154 0 16 (dk_at dksX0_lay_2 12 rfl rfl)
theorem dX0_lay_62 : decode cX0_lay 62 = .ok (.new 99, 3) := dk_187 0 99 (dk_at dksX0_lay_2 15 rfl rfl)
theorem dX0_lay_65 : decode cX0_lay 65 = .ok (.dup, 1) := dk_89 (dk_at dksX0_lay_2 18 rfl rfl)
theorem dX0_lay_66 : decode cX0_lay 66 = .ok (.iload_n 3, 1) := dk_29 (dk_at dksX0_lay_2 19 rfl rfl)
theorem dX0_lay_67 : decode cX0_lay 67 = .ok (.iload 4, 2) := dk_21 4 (dk_at dksX0_lay_2 20 rfl rfl)
theorem dX0_lay_69 : decode cX0_lay 69 = .ok (.invokespecial 101, 3) := dk_183 0 101 (dk_at dksX0_lay_3 0 rfl rfl)
theorem dX0_lay_72 : decode cX0_lay 72 = .ok (.goto 13, 3) := dk_167 0 13 (dk_at dksX0_lay_3 3 rfl rfl)
theorem dX0_lay_75 : decode cX0_lay 75 = .ok (.new 104, 3) := dk_187 0 104 (dk_at dksX0_lay_3 6 rfl rfl)
theorem dX0_lay_78 : decode cX0_lay 78 = .ok (.dup, 1) := dk_89 (dk_at dksX0_lay_3 9 rfl rfl)
theorem dX0_lay_79 : decode cX0_lay 79 = .ok (.iload_n 3, 1) := dk_29 (dk_at dksX0_lay_3 10 rfl rfl)
theorem dX0_lay_80 : decode cX0_lay 80 = .ok (.iload 4, 2) := dk_21 4 (dk_at dksX0_lay_3 11 rfl rfl)
theorem dX0_lay_82 : decode cX0_lay 82 = .ok (.invokespecial 106, 3) := dk_183 0 106 (dk_at dksX0_lay_3 13 rfl rfl)
theorem dX0_lay_85 : decode cX0_lay 85 = .ok (.astore 5, 2) := dk_58 5 (dk_at dksX0_lay_3 16 rfl rfl)
theorem dX0_lay_87 : decode cX0_lay 87 = .ok (.aload_n 0, 1) := dk_42 (dk_at dksX0_lay_3 18 rfl rfl)
theorem dX0_lay_88 : decode cX0_lay 88 = .ok (.getfield 10, 3) := dk_180 0 10 (dk_at dksX0_lay_3 19 rfl rfl)
theorem dX0_lay_91 : decode cX0_lay 91 = .ok (.getfield 107, 3) := dk_180 0 107 (dk_at dksX0_lay_4 0 rfl rfl)
theorem dX0_lay_94 : decode cX0_lay 94 = .ok (.iload_n 1, 1) := dk_27 (dk_at dksX0_lay_4 3 rfl rfl)
theorem dX0_lay_95 : decode cX0_lay 95 = .ok (.aaload, 1) := dk_50 (dk_at dksX0_lay_4 4 rfl rfl)
theorem dX0_lay_96 : decode cX0_lay 96 = .ok (.aload 5, 2) := dk_25 5 (dk_at dksX0_lay_4 5 rfl rfl)
theorem dX0_lay_98 : decode cX0_lay 98 = .ok (.invokevirtual 111, 3) := dk_182 0 111 (dk_at dksX0_lay_4 7 rfl rfl)
theorem dX0_lay_101 : decode cX0_lay 101 = .ok (.ifCond .ne 6, 3) := dk_154 0 6 (dk_at dksX0_lay_4 10 rfl rfl)
theorem dX0_lay_104 : decode cX0_lay 104 = .ok (.bipush (-2), 2) := dk_16 254 (dk_at dksX0_lay_4 13 rfl rfl)
theorem dX0_lay_106 : decode cX0_lay 106 = .ok (.ireturn, 1) := dk_172 (dk_at dksX0_lay_4 15 rfl rfl)
theorem dX0_lay_107 : decode cX0_lay 107 = .ok (.aload_n 0, 1) := dk_42 (dk_at dksX0_lay_4 16 rfl rfl)
theorem dX0_lay_108 : decode cX0_lay 108 = .ok (.getfield 10, 3) := dk_180 0 10 (dk_at dksX0_lay_4 17 rfl rfl)
theorem dX0_lay_111 : decode cX0_lay 111 = .ok (.getfield 107, 3) := dk_180 0 107 (dk_at dksX0_lay_4 20 rfl rfl)
theorem dX0_lay_114 : decode cX0_lay 114 = .ok (.iload_n 1, 1) := dk_27 (dk_at dksX0_lay_4 23 rfl rfl)
theorem dX0_lay_115 : decode cX0_lay 115 = .ok (.aaload, 1) := dk_50 (dk_at dksX0_lay_5 0 rfl rfl)
theorem dX0_lay_116 : decode cX0_lay 116 = .ok (.getfield 117, 3) := dk_180 0 117 (dk_at dksX0_lay_5 1 rfl rfl)
theorem dX0_lay_119 : decode cX0_lay 119 = .ok (.iconst 4, 1) := dk_7 (dk_at dksX0_lay_5 4 rfl rfl)
theorem dX0_lay_120 : decode cX0_lay 120 = .ok (.if_icmp .ne 8, 3) := dk_160 0 8 (dk_at dksX0_lay_5 5 rfl rfl)
theorem dX0_lay_123 : decode cX0_lay 123 = .ok (.bipush (-3), 2) := dk_16 253 (dk_at dksX0_lay_5 8 rfl rfl)
theorem dX0_lay_125 : decode cX0_lay 125 = .ok (.goto 17, 3) := dk_167 0 17 (dk_at dksX0_lay_5 10 rfl rfl)
theorem dX0_lay_128 : decode cX0_lay 128 = .ok (.aload_n 0, 1) := dk_42 (dk_at dksX0_lay_5 13 rfl rfl)
theorem dX0_lay_129 : decode cX0_lay 129 = .ok (.invokevirtual 55, 3) := dk_182 0 55 (dk_at dksX0_lay_5 14 rfl rfl)
theorem dX0_lay_132 : decode cX0_lay 132 = .ok (.getfield 107, 3) := dk_180 0 107 (dk_at dksX0_lay_5 17 rfl rfl)
theorem dX0_lay_135 : decode cX0_lay 135 = .ok (.iload_n 1, 1) := dk_27 (dk_at dksX0_lay_5 20 rfl rfl)
theorem dX0_lay_136 : decode cX0_lay 136 = .ok (.aaload, 1) := dk_50 (dk_at dksX0_lay_5 21 rfl rfl)
theorem dX0_lay_137 : decode cX0_lay 137 = .ok (.aload 5, 2) := dk_25 5 (dk_at dksX0_lay_5 22 rfl rfl)
theorem dX0_lay_139 : decode cX0_lay 139 = .ok (.invokevirtual 120, 3) := dk_182 0 120 (dk_at dksX0_lay_6 0 rfl rfl)
theorem dX0_lay_142 : decode cX0_lay 142 = .ok (.ireturn, 1) := dk_172 (dk_at dksX0_lay_6 3 rfl rfl)
def dkwX0_lift_2 : List UInt8 := [182, 0, 124, 172]
abbrev dktX0_lift_2 : List UInt8 := dkwX0_lift_2 ++ []
def dkwX0_lift_1 : List UInt8 := [180, 0, 117, 4, 100, 133, 184, 0, 45, 154, 0, 5, 2, 172, 42, 182, 0, 55, 180, 0, 107, 27, 50, 28]
abbrev dktX0_lift_1 : List UInt8 := dkwX0_lift_1 ++ dktX0_lift_2
def dkwX0_lift_0 : List UInt8 := [27, 133, 9, 20, 0, 95, 184, 0, 45, 153, 0, 27, 28, 133, 9, 42, 180, 0, 10, 180, 0, 107, 27, 50]
abbrev dktX0_lift_0 : List UInt8 := dkwX0_lift_0 ++ dktX0_lift_1
theorem dksX0_lift_0 : cX0_lift.data.toList.drop 0 = dktX0_lift_0 := by decide +kernel
theorem dksX0_lift_1 : cX0_lift.data.toList.drop 24 = dktX0_lift_1 := dk_seg dksX0_lift_0 24 rfl rfl
theorem dksX0_lift_2 : cX0_lift.data.toList.drop 48 = dktX0_lift_2 := dk_seg dksX0_lift_1 24 rfl rfl
theorem dX0_lift_0 : decode cX0_lift 0 = .ok (.iload_n 1, 1) := dk_27 (dk_at dksX0_lift_0 0 rfl rfl)
theorem dX0_lift_1 : decode cX0_lift 1 = .ok (.i2l, 1) := dk_133 (dk_at dksX0_lift_0 1 rfl rfl)
theorem dX0_lift_2 : decode cX0_lift 2 = .ok (.lconst 0, 1) := dk_9 (dk_at dksX0_lift_0 2 rfl rfl)
theorem dX0_lift_3 : decode cX0_lift 3 = .ok (.ldc2_w 95, 3) := dk_20 0 95 (dk_at dksX0_lift_0 3 rfl rfl)
theorem dX0_lift_6 : decode cX0_lift 6 = .ok (.invokestatic 45, 3) := dk_184 0 45 (dk_at dksX0_lift_0 6 rfl rfl)
theorem dX0_lift_9 : decode cX0_lift 9 = .ok (.ifCond .eq 27, 3) := dk_153 0 27 (dk_at dksX0_lift_0 9 rfl rfl)
theorem dX0_lift_12 : decode cX0_lift 12 = .ok (.iload_n 2, 1) := dk_28 (dk_at dksX0_lift_0 12 rfl rfl)
theorem dX0_lift_13 : decode cX0_lift 13 = .ok (.i2l, 1) := dk_133 (dk_at dksX0_lift_0 13 rfl rfl)
theorem dX0_lift_14 : decode cX0_lift 14 = .ok (.lconst 0, 1) := dk_9 (dk_at dksX0_lift_0 14 rfl rfl)
theorem dX0_lift_15 : decode cX0_lift 15 = .ok (.aload_n 0, 1) := dk_42 (dk_at dksX0_lift_0 15 rfl rfl)
theorem dX0_lift_16 : decode cX0_lift 16 = .ok (.getfield 10, 3) := dk_180 0 10 (dk_at dksX0_lift_0 16 rfl rfl)
theorem dX0_lift_19 : decode cX0_lift 19 = .ok (.getfield 107, 3) := dk_180 0 107 (dk_at dksX0_lift_0 19 rfl rfl)
theorem dX0_lift_22 : decode cX0_lift 22 = .ok (.iload_n 1, 1) := dk_27 (dk_at dksX0_lift_0 22 rfl rfl)
theorem dX0_lift_23 : decode cX0_lift 23 = .ok (.aaload, 1) := dk_50 (dk_at dksX0_lift_0 23 rfl rfl)
theorem dX0_lift_24 : decode cX0_lift 24 = .ok (.getfield 117, 3) := dk_180 0 117 (dk_at dksX0_lift_1 0 rfl rfl)
theorem dX0_lift_27 : decode cX0_lift 27 = .ok (.iconst 1, 1) := dk_4 (dk_at dksX0_lift_1 3 rfl rfl)
theorem dX0_lift_28 : decode cX0_lift 28 = .ok (.isub, 1) := dk_100 (dk_at dksX0_lift_1 4 rfl rfl)
theorem dX0_lift_29 : decode cX0_lift 29 = .ok (.i2l, 1) := dk_133 (dk_at dksX0_lift_1 5 rfl rfl)
theorem dX0_lift_30 : decode cX0_lift 30 = .ok (.invokestatic 45, 3) := dk_184 0 45 (dk_at dksX0_lift_1 6 rfl rfl)
theorem dX0_lift_33 : decode cX0_lift 33 = .ok (.ifCond .ne 5, 3) := dk_154 0 5 (dk_at dksX0_lift_1 9 rfl rfl)
theorem dX0_lift_36 : decode cX0_lift 36 = .ok (.iconst (-1), 1) := dk_2 (dk_at dksX0_lift_1 12 rfl rfl)
theorem dX0_lift_37 : decode cX0_lift 37 = .ok (.ireturn, 1) := dk_172 (dk_at dksX0_lift_1 13 rfl rfl)
theorem dX0_lift_38 : decode cX0_lift 38 = .ok (.aload_n 0, 1) := dk_42 (dk_at dksX0_lift_1 14 rfl rfl)
theorem dX0_lift_39 : decode cX0_lift 39 = .ok (.invokevirtual 55, 3) := dk_182 0 55 (dk_at dksX0_lift_1 15 rfl rfl)
theorem dX0_lift_42 : decode cX0_lift 42 = .ok (.getfield 107, 3) := dk_180 0 107 (dk_at dksX0_lift_1 18 rfl rfl)
theorem dX0_lift_45 : decode cX0_lift 45 = .ok (.iload_n 1, 1) := dk_27 (dk_at dksX0_lift_1 21 rfl rfl)
theorem dX0_lift_46 : decode cX0_lift 46 = .ok (.aaload, 1) := dk_50 (dk_at dksX0_lift_1 22 rfl rfl)
theorem dX0_lift_47 : decode cX0_lift 47 = .ok (.iload_n 2, 1) := dk_28 (dk_at dksX0_lift_1 23 rfl rfl)
theorem dX0_lift_48 : decode cX0_lift 48 = .ok (.invokevirtual 124, 3) := dk_182 0 124 (dk_at dksX0_lift_2 0 rfl rfl)
theorem dX0_lift_51 : decode cX0_lift 51 = .ok (.ireturn, 1) := dk_172 (dk_at dksX0_lift_2 3 rfl rfl)
def dkwX0_net_3 : List UInt8 := [27, 50, 28, 92, 46, 29, 100, 79, 25, 4, 180, 0, 92, 28, 50, 27, 92, 46, 29, 100, 79, 29, 172]
abbrev dktX0_net_3 : List UInt8 := dkwX0_net_3 ++ []
def dkwX0_net_2 : List UInt8 := [50, 27, 46, 184, 0, 128, 62, 29, 154, 0, 5, 2, 172, 42, 182, 0, 55, 58, 4, 25, 4, 180, 0, 92]
abbrev dktX0_net_2 : List UInt8 := dkwX0_net_2 ++ dktX0_net_3
def dkwX0_net_1 : List UInt8 := [160, 0, 5, 2, 172, 42, 180, 0, 10, 180, 0, 92, 27, 50, 28, 46, 42, 180, 0, 10, 180, 0, 92, 28]
abbrev dktX0_net_1 : List UInt8 := dkwX0_net_1 ++ dktX0_net_2
def dkwX0_net_0 : List UInt8 := [42, 180, 0, 10, 27, 182, 0, 72, 153, 0, 19, 42, 180, 0, 10, 28, 182, 0, 72, 153, 0, 8, 27, 28]
abbrev dktX0_net_0 : List UInt8 := dkwX0_net_0 ++ dktX0_net_1
theorem dksX0_net_0 : cX0_net.data.toList.drop 0 = dktX0_net_0 := by decide +kernel
theorem dksX0_net_1 : cX0_net.data.toList.drop 24 = dktX0_net_1 := dk_seg dksX0_net_0 24 rfl rfl
theorem dksX0_net_2 : cX0_net.data.toList.drop 48 = dktX0_net_2 := dk_seg dksX0_net_1 24 rfl rfl
theorem dksX0_net_3 : cX0_net.data.toList.drop 72 = dktX0_net_3 := dk_seg dksX0_net_2 24 rfl rfl
theorem dX0_net_0 : decode cX0_net 0 = .ok (.aload_n 0, 1) := dk_42 (dk_at dksX0_net_0 0 rfl rfl)
theorem dX0_net_1 : decode cX0_net 1 = .ok (.getfield 10, 3) := dk_180 0 10 (dk_at dksX0_net_0 1 rfl rfl)
theorem dX0_net_4 : decode cX0_net 4 = .ok (.iload_n 1, 1) := dk_27 (dk_at dksX0_net_0 4 rfl rfl)
theorem dX0_net_5 : decode cX0_net 5 = .ok (.invokevirtual 72, 3) := dk_182 0 72 (dk_at dksX0_net_0 5 rfl rfl)
theorem dX0_net_8 : decode cX0_net 8 = .ok (.ifCond .eq 19, 3) := dk_153 0 19 (dk_at dksX0_net_0 8 rfl rfl)
theorem dX0_net_11 : decode cX0_net 11 = .ok (.aload_n 0, 1) := dk_42 (dk_at dksX0_net_0 11 rfl rfl)
theorem dX0_net_12 : decode cX0_net 12 = .ok (.getfield 10, 3) := dk_180 0 10 (dk_at dksX0_net_0 12 rfl rfl)
theorem dX0_net_15 : decode cX0_net 15 = .ok (.iload_n 2, 1) := dk_28 (dk_at dksX0_net_0 15 rfl rfl)
theorem dX0_net_16 : decode cX0_net 16 = .ok (.invokevirtual 72, 3) := dk_182 0 72 (dk_at dksX0_net_0 16 rfl rfl)
theorem dX0_net_19 : decode cX0_net 19 = .ok (.ifCond .eq 8, 3) := dk_153 0 8 (dk_at dksX0_net_0 19 rfl rfl)
theorem dX0_net_22 : decode cX0_net 22 = .ok (.iload_n 1, 1) := dk_27 (dk_at dksX0_net_0 22 rfl rfl)
theorem dX0_net_23 : decode cX0_net 23 = .ok (.iload_n 2, 1) := dk_28 (dk_at dksX0_net_0 23 rfl rfl)
theorem dX0_net_24 : decode cX0_net 24 = .ok (.if_icmp .ne 5, 3) := dk_160 0 5 (dk_at dksX0_net_1 0 rfl rfl)
theorem dX0_net_27 : decode cX0_net 27 = .ok (.iconst (-1), 1) := dk_2 (dk_at dksX0_net_1 3 rfl rfl)
theorem dX0_net_28 : decode cX0_net 28 = .ok (.ireturn, 1) := dk_172 (dk_at dksX0_net_1 4 rfl rfl)
theorem dX0_net_29 : decode cX0_net 29 = .ok (.aload_n 0, 1) := dk_42 (dk_at dksX0_net_1 5 rfl rfl)
theorem dX0_net_30 : decode cX0_net 30 = .ok (.getfield 10, 3) := dk_180 0 10 (dk_at dksX0_net_1 6 rfl rfl)
theorem dX0_net_33 : decode cX0_net 33 = .ok (.getfield 92, 3) := dk_180 0 92 (dk_at dksX0_net_1 9 rfl rfl)
theorem dX0_net_36 : decode cX0_net 36 = .ok (.iload_n 1, 1) := dk_27 (dk_at dksX0_net_1 12 rfl rfl)
theorem dX0_net_37 : decode cX0_net 37 = .ok (.aaload, 1) := dk_50 (dk_at dksX0_net_1 13 rfl rfl)
theorem dX0_net_38 : decode cX0_net 38 = .ok (.iload_n 2, 1) := dk_28 (dk_at dksX0_net_1 14 rfl rfl)
theorem dX0_net_39 : decode cX0_net 39 = .ok (.iaload, 1) := dk_46 (dk_at dksX0_net_1 15 rfl rfl)
theorem dX0_net_40 : decode cX0_net 40 = .ok (.aload_n 0, 1) := dk_42 (dk_at dksX0_net_1 16 rfl rfl)
theorem dX0_net_41 : decode cX0_net 41 = .ok (.getfield 10, 3) := dk_180 0 10 (dk_at dksX0_net_1 17 rfl rfl)
theorem dX0_net_44 : decode cX0_net 44 = .ok (.getfield 92, 3) := dk_180 0 92 (dk_at dksX0_net_1 20 rfl rfl)
theorem dX0_net_47 : decode cX0_net 47 = .ok (.iload_n 2, 1) := dk_28 (dk_at dksX0_net_1 23 rfl rfl)
theorem dX0_net_48 : decode cX0_net 48 = .ok (.aaload, 1) := dk_50 (dk_at dksX0_net_2 0 rfl rfl)
theorem dX0_net_49 : decode cX0_net 49 = .ok (.iload_n 1, 1) := dk_27 (dk_at dksX0_net_2 1 rfl rfl)
theorem dX0_net_50 : decode cX0_net 50 = .ok (.iaload, 1) := dk_46 (dk_at dksX0_net_2 2 rfl rfl)
theorem dX0_net_51 : decode cX0_net 51 = .ok (.invokestatic 128, 3) := dk_184 0 128 (dk_at dksX0_net_2 3 rfl rfl)
theorem dX0_net_54 : decode cX0_net 54 = .ok (.istore_n 3, 1) := dk_62 (dk_at dksX0_net_2 6 rfl rfl)
theorem dX0_net_55 : decode cX0_net 55 = .ok (.iload_n 3, 1) := dk_29 (dk_at dksX0_net_2 7 rfl rfl)
theorem dX0_net_56 : decode cX0_net 56 = .ok (.ifCond .ne 5, 3) := dk_154 0 5 (dk_at dksX0_net_2 8 rfl rfl)
theorem dX0_net_59 : decode cX0_net 59 = .ok (.iconst (-1), 1) := dk_2 (dk_at dksX0_net_2 11 rfl rfl)
theorem dX0_net_60 : decode cX0_net 60 = .ok (.ireturn, 1) := dk_172 (dk_at dksX0_net_2 12 rfl rfl)
theorem dX0_net_61 : decode cX0_net 61 = .ok (.aload_n 0, 1) := dk_42 (dk_at dksX0_net_2 13 rfl rfl)
theorem dX0_net_62 : decode cX0_net 62 = .ok (.invokevirtual 55, 3) := dk_182 0 55 (dk_at dksX0_net_2 14 rfl rfl)
theorem dX0_net_65 : decode cX0_net 65 = .ok (.astore 4, 2) := dk_58 4 (dk_at dksX0_net_2 17 rfl rfl)
theorem dX0_net_67 : decode cX0_net 67 = .ok (.aload 4, 2) := dk_25 4 (dk_at dksX0_net_2 19 rfl rfl)
theorem dX0_net_69 : decode cX0_net 69 = .ok (.getfield 92, 3) := dk_180 0 92 (dk_at dksX0_net_2 21 rfl rfl)
theorem dX0_net_72 : decode cX0_net 72 = .ok (.iload_n 1, 1) := dk_27 (dk_at dksX0_net_3 0 rfl rfl)
theorem dX0_net_73 : decode cX0_net 73 = .ok (.aaload, 1) := dk_50 (dk_at dksX0_net_3 1 rfl rfl)
theorem dX0_net_74 : decode cX0_net 74 = .ok (.iload_n 2, 1) := dk_28 (dk_at dksX0_net_3 2 rfl rfl)
theorem dX0_net_75 : decode cX0_net 75 = .ok (.dup2, 1) := dk_92 (dk_at dksX0_net_3 3 rfl rfl)
theorem dX0_net_76 : decode cX0_net 76 = .ok (.iaload, 1) := dk_46 (dk_at dksX0_net_3 4 rfl rfl)
theorem dX0_net_77 : decode cX0_net 77 = .ok (.iload_n 3, 1) := dk_29 (dk_at dksX0_net_3 5 rfl rfl)
theorem dX0_net_78 : decode cX0_net 78 = .ok (.isub, 1) := dk_100 (dk_at dksX0_net_3 6 rfl rfl)
theorem dX0_net_79 : decode cX0_net 79 = .ok (.iastore, 1) := dk_79 (dk_at dksX0_net_3 7 rfl rfl)
theorem dX0_net_80 : decode cX0_net 80 = .ok (.aload 4, 2) := dk_25 4 (dk_at dksX0_net_3 8 rfl rfl)
theorem dX0_net_82 : decode cX0_net 82 = .ok (.getfield 92, 3) := dk_180 0 92 (dk_at dksX0_net_3 10 rfl rfl)
theorem dX0_net_85 : decode cX0_net 85 = .ok (.iload_n 2, 1) := dk_28 (dk_at dksX0_net_3 13 rfl rfl)
theorem dX0_net_86 : decode cX0_net 86 = .ok (.aaload, 1) := dk_50 (dk_at dksX0_net_3 14 rfl rfl)
theorem dX0_net_87 : decode cX0_net 87 = .ok (.iload_n 1, 1) := dk_27 (dk_at dksX0_net_3 15 rfl rfl)
theorem dX0_net_88 : decode cX0_net 88 = .ok (.dup2, 1) := dk_92 (dk_at dksX0_net_3 16 rfl rfl)
theorem dX0_net_89 : decode cX0_net 89 = .ok (.iaload, 1) := dk_46 (dk_at dksX0_net_3 17 rfl rfl)
theorem dX0_net_90 : decode cX0_net 90 = .ok (.iload_n 3, 1) := dk_29 (dk_at dksX0_net_3 18 rfl rfl)
theorem dX0_net_91 : decode cX0_net 91 = .ok (.isub, 1) := dk_100 (dk_at dksX0_net_3 19 rfl rfl)
theorem dX0_net_92 : decode cX0_net 92 = .ok (.iastore, 1) := dk_79 (dk_at dksX0_net_3 20 rfl rfl)
theorem dX0_net_93 : decode cX0_net 93 = .ok (.iload_n 3, 1) := dk_29 (dk_at dksX0_net_3 21 rfl rfl)
theorem dX0_net_94 : decode cX0_net 94 = .ok (.ireturn, 1) := dk_172 (dk_at dksX0_net_3 22 rfl rfl)
def dkwX0_merge_2 : List UInt8 := [4, 100, 172]
abbrev dktX0_merge_2 : List UInt8 := dkwX0_merge_2 ++ []
def dkwX0_merge_1 : List UInt8 := [160, 0, 5, 2, 172, 42, 182, 0, 55, 27, 28, 182, 0, 134, 27, 28, 162, 0, 7, 27, 167, 0, 6, 27]
abbrev dktX0_merge_1 : List UInt8 := dkwX0_merge_1 ++ dktX0_merge_2
def dkwX0_merge_0 : List UInt8 := [42, 180, 0, 10, 27, 182, 0, 72, 153, 0, 19, 42, 180, 0, 10, 28, 182, 0, 72, 153, 0, 8, 27, 28]
abbrev dktX0_merge_0 : List UInt8 := dkwX0_merge_0 ++ dktX0_merge_1
theorem dksX0_merge_0 : cX0_merge.data.toList.drop 0 = dktX0_merge_0 := by decide +kernel
theorem dksX0_merge_1 : cX0_merge.data.toList.drop 24 = dktX0_merge_1 := dk_seg dksX0_merge_0 24 rfl rfl
theorem dksX0_merge_2 : cX0_merge.data.toList.drop 48 = dktX0_merge_2 := dk_seg dksX0_merge_1 24 rfl rfl
theorem dX0_merge_0 : decode cX0_merge 0 = .ok (.aload_n 0, 1) := dk_42 (dk_at dksX0_merge_0 0 rfl rfl)
theorem dX0_merge_1 : decode cX0_merge 1 = .ok (.getfield 10, 3) := dk_180 0 10 (dk_at dksX0_merge_0 1 rfl rfl)
theorem dX0_merge_4 : decode cX0_merge 4 = .ok (.iload_n 1, 1) := dk_27 (dk_at dksX0_merge_0 4 rfl rfl)
theorem dX0_merge_5 : decode cX0_merge 5 = .ok (.invokevirtual 72, 3) := dk_182 0 72 (dk_at dksX0_merge_0 5 rfl rfl)
theorem dX0_merge_8 : decode cX0_merge 8 = .ok (.ifCond .eq 19, 3) := dk_153 0 19 (dk_at dksX0_merge_0 8 rfl rfl)
theorem dX0_merge_11 : decode cX0_merge 11 = .ok (.aload_n 0, 1) := dk_42 (dk_at dksX0_merge_0 11 rfl rfl)
theorem dX0_merge_12 : decode cX0_merge 12 = .ok (.getfield 10, 3) := dk_180 0 10 (dk_at dksX0_merge_0 12 rfl rfl)
theorem dX0_merge_15 : decode cX0_merge 15 = .ok (.iload_n 2, 1) := dk_28 (dk_at dksX0_merge_0 15 rfl rfl)
theorem dX0_merge_16 : decode cX0_merge 16 = .ok (.invokevirtual 72, 3) := dk_182 0 72 (dk_at dksX0_merge_0 16 rfl rfl)
theorem dX0_merge_19 : decode cX0_merge 19 = .ok (.ifCond .eq 8, 3) := dk_153 0 8 (dk_at dksX0_merge_0 19 rfl rfl)
theorem dX0_merge_22 : decode cX0_merge 22 = .ok (.iload_n 1, 1) := dk_27 (dk_at dksX0_merge_0 22 rfl rfl)
theorem dX0_merge_23 : decode cX0_merge 23 = .ok (.iload_n 2, 1) := dk_28 (dk_at dksX0_merge_0 23 rfl rfl)
theorem dX0_merge_24 : decode cX0_merge 24 = .ok (.if_icmp .ne 5, 3) := dk_160 0 5 (dk_at dksX0_merge_1 0 rfl rfl)
theorem dX0_merge_27 : decode cX0_merge 27 = .ok (.iconst (-1), 1) := dk_2 (dk_at dksX0_merge_1 3 rfl rfl)
theorem dX0_merge_28 : decode cX0_merge 28 = .ok (.ireturn, 1) := dk_172 (dk_at dksX0_merge_1 4 rfl rfl)
theorem dX0_merge_29 : decode cX0_merge 29 = .ok (.aload_n 0, 1) := dk_42 (dk_at dksX0_merge_1 5 rfl rfl)
theorem dX0_merge_30 : decode cX0_merge 30 = .ok (.invokevirtual 55, 3) := dk_182 0 55 (dk_at dksX0_merge_1 6 rfl rfl)
theorem dX0_merge_33 : decode cX0_merge 33 = .ok (.iload_n 1, 1) := dk_27 (dk_at dksX0_merge_1 9 rfl rfl)
theorem dX0_merge_34 : decode cX0_merge 34 = .ok (.iload_n 2, 1) := dk_28 (dk_at dksX0_merge_1 10 rfl rfl)
theorem dX0_merge_35 : decode cX0_merge 35 = .ok (.invokevirtual 134, 3) := dk_182 0 134 (dk_at dksX0_merge_1 11 rfl rfl)
theorem dX0_merge_38 : decode cX0_merge 38 = .ok (.iload_n 1, 1) := dk_27 (dk_at dksX0_merge_1 14 rfl rfl)
theorem dX0_merge_39 : decode cX0_merge 39 = .ok (.iload_n 2, 1) := dk_28 (dk_at dksX0_merge_1 15 rfl rfl)
theorem dX0_merge_40 : decode cX0_merge 40 = .ok (.if_icmp .ge 7, 3) := dk_162 0 7 (dk_at dksX0_merge_1 16 rfl rfl)
theorem dX0_merge_43 : decode cX0_merge 43 = .ok (.iload_n 1, 1) := dk_27 (dk_at dksX0_merge_1 19 rfl rfl)
theorem dX0_merge_44 : decode cX0_merge 44 = .ok (.goto 6, 3) := dk_167 0 6 (dk_at dksX0_merge_1 20 rfl rfl)
theorem dX0_merge_47 : decode cX0_merge 47 = .ok (.iload_n 1, 1) := dk_27 (dk_at dksX0_merge_1 23 rfl rfl)
theorem dX0_merge_48 : decode cX0_merge 48 = .ok (.iconst 1, 1) := dk_4 (dk_at dksX0_merge_2 0 rfl rfl)
theorem dX0_merge_49 : decode cX0_merge 49 = .ok (.isub, 1) := dk_100 (dk_at dksX0_merge_2 1 rfl rfl)
theorem dX0_merge_50 : decode cX0_merge 50 = .ok (.ireturn, 1) := dk_172 (dk_at dksX0_merge_2 2 rfl rfl)
def dkwX0_close_1 : List UInt8 := [180, 0, 10, 180, 0, 64, 172]
abbrev dktX0_close_1 : List UInt8 := dkwX0_close_1 ++ []
def dkwX0_close_0 : List UInt8 := [42, 180, 0, 10, 27, 182, 0, 72, 154, 0, 5, 2, 172, 42, 182, 0, 55, 27, 182, 0, 137, 42]
abbrev dktX0_close_0 : List UInt8 := dkwX0_close_0 ++ dktX0_close_1
theorem dksX0_close_0 : cX0_close.data.toList.drop 0 = dktX0_close_0 := by decide +kernel
theorem dksX0_close_1 : cX0_close.data.toList.drop 22 = dktX0_close_1 := dk_seg dksX0_close_0 22 rfl rfl
theorem dX0_close_0 : decode cX0_close 0 = .ok (.aload_n 0, 1) := dk_42 (dk_at dksX0_close_0 0 rfl rfl)
theorem dX0_close_1 : decode cX0_close 1 = .ok (.getfield 10, 3) := dk_180 0 10 (dk_at dksX0_close_0 1 rfl rfl)
theorem dX0_close_4 : decode cX0_close 4 = .ok (.iload_n 1, 1) := dk_27 (dk_at dksX0_close_0 4 rfl rfl)
theorem dX0_close_5 : decode cX0_close 5 = .ok (.invokevirtual 72, 3) := dk_182 0 72 (dk_at dksX0_close_0 5 rfl rfl)
theorem dX0_close_8 : decode cX0_close 8 = .ok (.ifCond .ne 5, 3) := dk_154 0 5 (dk_at dksX0_close_0 8 rfl rfl)
theorem dX0_close_11 : decode cX0_close 11 = .ok (.iconst (-1), 1) := dk_2 (dk_at dksX0_close_0 11 rfl rfl)
theorem dX0_close_12 : decode cX0_close 12 = .ok (.ireturn, 1) := dk_172 (dk_at dksX0_close_0 12 rfl rfl)
theorem dX0_close_13 : decode cX0_close 13 = .ok (.aload_n 0, 1) := dk_42 (dk_at dksX0_close_0 13 rfl rfl)
theorem dX0_close_14 : decode cX0_close 14 = .ok (.invokevirtual 55, 3) := dk_182 0 55 (dk_at dksX0_close_0 14 rfl rfl)
theorem dX0_close_17 : decode cX0_close 17 = .ok (.iload_n 1, 1) := dk_27 (dk_at dksX0_close_0 17 rfl rfl)
theorem dX0_close_18 : decode cX0_close 18 = .ok (.invokevirtual 137, 3) := dk_182 0 137 (dk_at dksX0_close_0 18 rfl rfl)
theorem dX0_close_21 : decode cX0_close 21 = .ok (.aload_n 0, 1) := dk_42 (dk_at dksX0_close_0 21 rfl rfl)
theorem dX0_close_22 : decode cX0_close 22 = .ok (.getfield 10, 3) := dk_180 0 10 (dk_at dksX0_close_1 0 rfl rfl)
theorem dX0_close_25 : decode cX0_close 25 = .ok (.getfield 64, 3) := dk_180 0 64 (dk_at dksX0_close_1 3 rfl rfl)
theorem dX0_close_28 : decode cX0_close 28 = .ok (.ireturn, 1) := dk_172 (dk_at dksX0_close_1 6 rfl rfl)
def dkwX0_live_1 : List UInt8 := [154, 0, 5, 2, 172, 42, 182, 0, 55, 182, 0, 154, 172]
abbrev dktX0_live_1 : List UInt8 := dkwX0_live_1 ++ []
def dkwX0_live_0 : List UInt8 := [42, 180, 0, 10, 182, 0, 141, 76, 43, 180, 0, 145, 154, 0, 16, 42, 180, 0, 10, 43, 182, 0, 150]
abbrev dktX0_live_0 : List UInt8 := dkwX0_live_0 ++ dktX0_live_1
theorem dksX0_live_0 : cX0_live.data.toList.drop 0 = dktX0_live_0 := by decide +kernel
theorem dksX0_live_1 : cX0_live.data.toList.drop 23 = dktX0_live_1 := dk_seg dksX0_live_0 23 rfl rfl
theorem dX0_live_0 : decode cX0_live 0 = .ok (.aload_n 0, 1) := dk_42 (dk_at dksX0_live_0 0 rfl rfl)
theorem dX0_live_1 : decode cX0_live 1 = .ok (.getfield 10, 3) := dk_180 0 10 (dk_at dksX0_live_0 1 rfl rfl)
theorem dX0_live_4 : decode cX0_live 4 = .ok (.invokevirtual 141, 3) := dk_182 0 141 (dk_at dksX0_live_0 4 rfl rfl)
theorem dX0_live_7 : decode cX0_live 7 = .ok (.astore_n 1, 1) := dk_76 (dk_at dksX0_live_0 7 rfl rfl)
theorem dX0_live_8 : decode cX0_live 8 = .ok (.aload_n 1, 1) := dk_43 (dk_at dksX0_live_0 8 rfl rfl)
theorem dX0_live_9 : decode cX0_live 9 = .ok (.getfield 145, 3) := dk_180 0 145 (dk_at dksX0_live_0 9 rfl rfl)
theorem dX0_live_12 : decode cX0_live 12 = .ok (.ifCond .ne 16, 3) := dk_154 0 16 (dk_at dksX0_live_0 12 rfl rfl)
theorem dX0_live_15 : decode cX0_live 15 = .ok (.aload_n 0, 1) := dk_42 (dk_at dksX0_live_0 15 rfl rfl)
theorem dX0_live_16 : decode cX0_live 16 = .ok (.getfield 10, 3) := dk_180 0 10 (dk_at dksX0_live_0 16 rfl rfl)
theorem dX0_live_19 : decode cX0_live 19 = .ok (.aload_n 1, 1) := dk_43 (dk_at dksX0_live_0 19 rfl rfl)
theorem dX0_live_20 : decode cX0_live 20 = .ok (.invokevirtual 150, 3) := dk_182 0 150 (dk_at dksX0_live_0 20 rfl rfl)
theorem dX0_live_23 : decode cX0_live 23 = .ok (.ifCond .ne 5, 3) := dk_154 0 5 (dk_at dksX0_live_1 0 rfl rfl)
theorem dX0_live_26 : decode cX0_live 26 = .ok (.iconst (-1), 1) := dk_2 (dk_at dksX0_live_1 3 rfl rfl)
theorem dX0_live_27 : decode cX0_live 27 = .ok (.ireturn, 1) := dk_172 (dk_at dksX0_live_1 4 rfl rfl)
theorem dX0_live_28 : decode cX0_live 28 = .ok (.aload_n 0, 1) := dk_42 (dk_at dksX0_live_1 5 rfl rfl)
theorem dX0_live_29 : decode cX0_live 29 = .ok (.invokevirtual 55, 3) := dk_182 0 55 (dk_at dksX0_live_1 6 rfl rfl)
theorem dX0_live_32 : decode cX0_live 32 = .ok (.invokevirtual 154, 3) := dk_182 0 154 (dk_at dksX0_live_1 9 rfl rfl)
theorem dX0_live_35 : decode cX0_live 35 = .ok (.ireturn, 1) := dk_172 (dk_at dksX0_live_1 12 rfl rfl)
def dkwX0_has_0 : List UInt8 := [26, 27, 122, 4, 126, 4, 160, 0, 7, 4, 167, 0, 4, 3, 172]
abbrev dktX0_has_0 : List UInt8 := dkwX0_has_0 ++ []
theorem dksX0_has_0 : cX0_has.data.toList.drop 0 = dktX0_has_0 := by decide +kernel
theorem dX0_has_0 : decode cX0_has 0 = .ok (.iload_n 0, 1) := dk_26 (dk_at dksX0_has_0 0 rfl rfl)
theorem dX0_has_1 : decode cX0_has 1 = .ok (.iload_n 1, 1) := dk_27 (dk_at dksX0_has_0 1 rfl rfl)
theorem dX0_has_2 : decode cX0_has 2 = .ok (.ishr, 1) := dk_122 (dk_at dksX0_has_0 2 rfl rfl)
theorem dX0_has_3 : decode cX0_has 3 = .ok (.iconst 1, 1) := dk_4 (dk_at dksX0_has_0 3 rfl rfl)
theorem dX0_has_4 : decode cX0_has 4 = .ok (.iand, 1) := dk_126 (dk_at dksX0_has_0 4 rfl rfl)
theorem dX0_has_5 : decode cX0_has 5 = .ok (.iconst 1, 1) := dk_4 (dk_at dksX0_has_0 5 rfl rfl)
theorem dX0_has_6 : decode cX0_has 6 = .ok (.if_icmp .ne 7, 3) := dk_160 0 7 (dk_at dksX0_has_0 6 rfl rfl)
theorem dX0_has_9 : decode cX0_has 9 = .ok (.iconst 1, 1) := dk_4 (dk_at dksX0_has_0 9 rfl rfl)
theorem dX0_has_10 : decode cX0_has 10 = .ok (.goto 4, 3) := dk_167 0 4 (dk_at dksX0_has_0 10 rfl rfl)
theorem dX0_has_13 : decode cX0_has 13 = .ok (.iconst 0, 1) := dk_3 (dk_at dksX0_has_0 13 rfl rfl)
theorem dX0_has_14 : decode cX0_has 14 = .ok (.ireturn, 1) := dk_172 (dk_at dksX0_has_0 14 rfl rfl)
def dkwX0_undo_1 : List UInt8 := [181, 0, 10, 42, 180, 0, 19, 182, 0, 27, 172]
abbrev dktX0_undo_1 : List UInt8 := dkwX0_undo_1 ++ []
def dkwX0_undo_0 : List UInt8 := [42, 180, 0, 19, 182, 0, 157, 153, 0, 5, 2, 172, 42, 42, 180, 0, 19, 182, 0, 161, 192, 0, 7]
abbrev dktX0_undo_0 : List UInt8 := dkwX0_undo_0 ++ dktX0_undo_1
theorem dksX0_undo_0 : cX0_undo.data.toList.drop 0 = dktX0_undo_0 := by decide +kernel
theorem dksX0_undo_1 : cX0_undo.data.toList.drop 23 = dktX0_undo_1 := dk_seg dksX0_undo_0 23 rfl rfl
theorem dX0_undo_0 : decode cX0_undo 0 = .ok (.aload_n 0, 1) := dk_42 (dk_at dksX0_undo_0 0 rfl rfl)
theorem dX0_undo_1 : decode cX0_undo 1 = .ok (.getfield 19, 3) := dk_180 0 19 (dk_at dksX0_undo_0 1 rfl rfl)
theorem dX0_undo_4 : decode cX0_undo 4 = .ok (.invokevirtual 157, 3) := dk_182 0 157 (dk_at dksX0_undo_0 4 rfl rfl)
theorem dX0_undo_7 : decode cX0_undo 7 = .ok (.ifCond .eq 5, 3) := dk_153 0 5 (dk_at dksX0_undo_0 7 rfl rfl)
theorem dX0_undo_10 : decode cX0_undo 10 = .ok (.iconst (-1), 1) := dk_2 (dk_at dksX0_undo_0 10 rfl rfl)
theorem dX0_undo_11 : decode cX0_undo 11 = .ok (.ireturn, 1) := dk_172 (dk_at dksX0_undo_0 11 rfl rfl)
theorem dX0_undo_12 : decode cX0_undo 12 = .ok (.aload_n 0, 1) := dk_42 (dk_at dksX0_undo_0 12 rfl rfl)
theorem dX0_undo_13 : decode cX0_undo 13 = .ok (.aload_n 0, 1) := dk_42 (dk_at dksX0_undo_0 13 rfl rfl)
theorem dX0_undo_14 : decode cX0_undo 14 = .ok (.getfield 19, 3) := dk_180 0 19 (dk_at dksX0_undo_0 14 rfl rfl)
theorem dX0_undo_17 : decode cX0_undo 17 = .ok (.invokevirtual 161, 3) := dk_182 0 161 (dk_at dksX0_undo_0 17 rfl rfl)
theorem dX0_undo_20 : decode cX0_undo 20 = .ok (.checkcast 7, 3) := dk_192 0 7 (dk_at dksX0_undo_0 20 rfl rfl)
theorem dX0_undo_23 : decode cX0_undo 23 = .ok (.putfield 10, 3) := dk_181 0 10 (dk_at dksX0_undo_1 0 rfl rfl)
theorem dX0_undo_26 : decode cX0_undo 26 = .ok (.aload_n 0, 1) := dk_42 (dk_at dksX0_undo_1 3 rfl rfl)
theorem dX0_undo_27 : decode cX0_undo 27 = .ok (.getfield 19, 3) := dk_180 0 19 (dk_at dksX0_undo_1 4 rfl rfl)
theorem dX0_undo_30 : decode cX0_undo 30 = .ok (.invokevirtual 27, 3) := dk_182 0 27 (dk_at dksX0_undo_1 7 rfl rfl)
theorem dX0_undo_33 : decode cX0_undo 33 = .ok (.ireturn, 1) := dk_172 (dk_at dksX0_undo_1 10 rfl rfl)
def dkwX0_of_3 : List UInt8 := [182, 0, 167, 172, 42, 27, 3, 182, 0, 167, 172, 2, 172]
abbrev dktX0_of_3 : List UInt8 := dkwX0_of_3 ++ []
def dkwX0_of_2 : List UInt8 := [42, 180, 0, 10, 180, 0, 67, 27, 50, 28, 46, 172, 42, 180, 0, 10, 27, 182, 0, 164, 172, 42, 27, 4]
abbrev dktX0_of_2 : List UInt8 := dkwX0_of_2 ++ dktX0_of_3
def dkwX0_of_1 : List UInt8 := [170, 0, 0, 0, 0, 81, 0, 0, 0, 0, 0, 0, 0, 7, 0, 0, 0, 46, 0, 0, 0, 46, 0, 0, 0, 46, 0, 0, 0, 46, 0, 0, 0, 46, 0, 0, 0, 58, 0, 0, 0, 67, 0, 0, 0, 74]
abbrev dktX0_of_1 : List UInt8 := dkwX0_of_1 ++ dktX0_of_2
def dkwX0_of_0 : List UInt8 := [42, 180, 0, 10, 27, 182, 0, 72, 154, 0, 5, 2, 172, 28]
abbrev dktX0_of_0 : List UInt8 := dkwX0_of_0 ++ dktX0_of_1
theorem dksX0_of_0 : cX0_of.data.toList.drop 0 = dktX0_of_0 := by decide +kernel
theorem dksX0_of_1 : cX0_of.data.toList.drop 14 = dktX0_of_1 := dk_seg dksX0_of_0 14 rfl rfl
theorem dksX0_of_2 : cX0_of.data.toList.drop 60 = dktX0_of_2 := dk_seg dksX0_of_1 46 rfl rfl
theorem dksX0_of_3 : cX0_of.data.toList.drop 84 = dktX0_of_3 := dk_seg dksX0_of_2 24 rfl rfl
theorem dX0_of_0 : decode cX0_of 0 = .ok (.aload_n 0, 1) := dk_42 (dk_at dksX0_of_0 0 rfl rfl)
theorem dX0_of_1 : decode cX0_of 1 = .ok (.getfield 10, 3) := dk_180 0 10 (dk_at dksX0_of_0 1 rfl rfl)
theorem dX0_of_4 : decode cX0_of 4 = .ok (.iload_n 1, 1) := dk_27 (dk_at dksX0_of_0 4 rfl rfl)
theorem dX0_of_5 : decode cX0_of 5 = .ok (.invokevirtual 72, 3) := dk_182 0 72 (dk_at dksX0_of_0 5 rfl rfl)
theorem dX0_of_8 : decode cX0_of 8 = .ok (.ifCond .ne 5, 3) := dk_154 0 5 (dk_at dksX0_of_0 8 rfl rfl)
theorem dX0_of_11 : decode cX0_of 11 = .ok (.iconst (-1), 1) := dk_2 (dk_at dksX0_of_0 11 rfl rfl)
theorem dX0_of_12 : decode cX0_of 12 = .ok (.ireturn, 1) := dk_172 (dk_at dksX0_of_0 12 rfl rfl)
theorem dX0_of_13 : decode cX0_of 13 = .ok (.iload_n 2, 1) := dk_28 (dk_at dksX0_of_0 13 rfl rfl)
theorem dX0_of_14 : decode cX0_of 14 = .ok (.tableswitch 81 0 7 #[46, 46, 46, 46, 46, 58, 67, 74], 46) := by decide +kernel
theorem dX0_of_60 : decode cX0_of 60 = .ok (.aload_n 0, 1) := dk_42 (dk_at dksX0_of_2 0 rfl rfl)
theorem dX0_of_61 : decode cX0_of 61 = .ok (.getfield 10, 3) := dk_180 0 10 (dk_at dksX0_of_2 1 rfl rfl)
theorem dX0_of_64 : decode cX0_of 64 = .ok (.getfield 67, 3) := dk_180 0 67 (dk_at dksX0_of_2 4 rfl rfl)
theorem dX0_of_67 : decode cX0_of 67 = .ok (.iload_n 1, 1) := dk_27 (dk_at dksX0_of_2 7 rfl rfl)
theorem dX0_of_68 : decode cX0_of 68 = .ok (.aaload, 1) := dk_50 (dk_at dksX0_of_2 8 rfl rfl)
theorem dX0_of_69 : decode cX0_of 69 = .ok (.iload_n 2, 1) := dk_28 (dk_at dksX0_of_2 9 rfl rfl)
theorem dX0_of_70 : decode cX0_of 70 = .ok (.iaload, 1) := dk_46 (dk_at dksX0_of_2 10 rfl rfl)
theorem dX0_of_71 : decode cX0_of 71 = .ok (.ireturn, 1) := dk_172 (dk_at dksX0_of_2 11 rfl rfl)
theorem dX0_of_72 : decode cX0_of 72 = .ok (.aload_n 0, 1) := dk_42 (dk_at dksX0_of_2 12 rfl rfl)
theorem dX0_of_73 : decode cX0_of 73 = .ok (.getfield 10, 3) := dk_180 0 10 (dk_at dksX0_of_2 13 rfl rfl)
theorem dX0_of_76 : decode cX0_of 76 = .ok (.iload_n 1, 1) := dk_27 (dk_at dksX0_of_2 16 rfl rfl)
theorem dX0_of_77 : decode cX0_of 77 = .ok (.invokevirtual 164, 3) := dk_182 0 164 (dk_at dksX0_of_2 17 rfl rfl)
theorem dX0_of_80 : decode cX0_of 80 = .ok (.ireturn, 1) := dk_172 (dk_at dksX0_of_2 20 rfl rfl)
theorem dX0_of_81 : decode cX0_of 81 = .ok (.aload_n 0, 1) := dk_42 (dk_at dksX0_of_2 21 rfl rfl)
theorem dX0_of_82 : decode cX0_of 82 = .ok (.iload_n 1, 1) := dk_27 (dk_at dksX0_of_2 22 rfl rfl)
theorem dX0_of_83 : decode cX0_of 83 = .ok (.iconst 1, 1) := dk_4 (dk_at dksX0_of_2 23 rfl rfl)
theorem dX0_of_84 : decode cX0_of 84 = .ok (.invokevirtual 167, 3) := dk_182 0 167 (dk_at dksX0_of_3 0 rfl rfl)
theorem dX0_of_87 : decode cX0_of 87 = .ok (.ireturn, 1) := dk_172 (dk_at dksX0_of_3 3 rfl rfl)
theorem dX0_of_88 : decode cX0_of 88 = .ok (.aload_n 0, 1) := dk_42 (dk_at dksX0_of_3 4 rfl rfl)
theorem dX0_of_89 : decode cX0_of 89 = .ok (.iload_n 1, 1) := dk_27 (dk_at dksX0_of_3 5 rfl rfl)
theorem dX0_of_90 : decode cX0_of 90 = .ok (.iconst 0, 1) := dk_3 (dk_at dksX0_of_3 6 rfl rfl)
theorem dX0_of_91 : decode cX0_of 91 = .ok (.invokevirtual 167, 3) := dk_182 0 167 (dk_at dksX0_of_3 7 rfl rfl)
theorem dX0_of_94 : decode cX0_of 94 = .ok (.ireturn, 1) := dk_172 (dk_at dksX0_of_3 10 rfl rfl)
theorem dX0_of_95 : decode cX0_of 95 = .ok (.iconst (-1), 1) := dk_2 (dk_at dksX0_of_3 11 rfl rfl)
theorem dX0_of_96 : decode cX0_of 96 = .ok (.ireturn, 1) := dk_172 (dk_at dksX0_of_3 12 rfl rfl)
def dkwX0_loansOf_2 : List UInt8 := [27, 46, 96, 62, 132, 4, 1, 167, 255, 207, 29, 172]
abbrev dktX0_loansOf_2 : List UInt8 := dkwX0_loansOf_2 ++ []
def dkwX0_loansOf_1 : List UInt8 := [180, 0, 10, 180, 0, 92, 27, 50, 21, 4, 46, 167, 0, 15, 42, 180, 0, 10, 180, 0, 92, 21, 4, 50]
abbrev dktX0_loansOf_1 : List UInt8 := dkwX0_loansOf_1 ++ dktX0_loansOf_2
def dkwX0_loansOf_0 : List UInt8 := [3, 62, 3, 54, 4, 21, 4, 42, 180, 0, 10, 180, 0, 64, 162, 0, 43, 29, 28, 153, 0, 18, 42]
abbrev dktX0_loansOf_0 : List UInt8 := dkwX0_loansOf_0 ++ dktX0_loansOf_1
theorem dksX0_loansOf_0 : cX0_loansOf.data.toList.drop 0 = dktX0_loansOf_0 := by decide +kernel
theorem dksX0_loansOf_1 : cX0_loansOf.data.toList.drop 23 = dktX0_loansOf_1 := dk_seg dksX0_loansOf_0 23 rfl rfl
theorem dksX0_loansOf_2 : cX0_loansOf.data.toList.drop 47 = dktX0_loansOf_2 := dk_seg dksX0_loansOf_1 24 rfl rfl
theorem dX0_loansOf_0 : decode cX0_loansOf 0 = .ok (.iconst 0, 1) := dk_3 (dk_at dksX0_loansOf_0 0 rfl rfl)
theorem dX0_loansOf_1 : decode cX0_loansOf 1 = .ok (.istore_n 3, 1) := dk_62 (dk_at dksX0_loansOf_0 1 rfl rfl)
theorem dX0_loansOf_2 : decode cX0_loansOf 2 = .ok (.iconst 0, 1) := dk_3 (dk_at dksX0_loansOf_0 2 rfl rfl)
theorem dX0_loansOf_3 : decode cX0_loansOf 3 = .ok (.istore 4, 2) := dk_54 4 (dk_at dksX0_loansOf_0 3 rfl rfl)
theorem dX0_loansOf_5 : decode cX0_loansOf 5 = .ok (.iload 4, 2) := dk_21 4 (dk_at dksX0_loansOf_0 5 rfl rfl)
theorem dX0_loansOf_7 : decode cX0_loansOf 7 = .ok (.aload_n 0, 1) := dk_42 (dk_at dksX0_loansOf_0 7 rfl rfl)
theorem dX0_loansOf_8 : decode cX0_loansOf 8 = .ok (.getfield 10, 3) := dk_180 0 10 (dk_at dksX0_loansOf_0 8 rfl rfl)
theorem dX0_loansOf_11 : decode cX0_loansOf 11 = .ok (.getfield 64, 3) := dk_180 0 64 (dk_at dksX0_loansOf_0 11 rfl rfl)
theorem dX0_loansOf_14 : decode cX0_loansOf 14 = .ok (.if_icmp .ge 43, 3) := dk_162 0 43 (dk_at dksX0_loansOf_0 14 rfl rfl)
theorem dX0_loansOf_17 : decode cX0_loansOf 17 = .ok (.iload_n 3, 1) := dk_29 (dk_at dksX0_loansOf_0 17 rfl rfl)
theorem dX0_loansOf_18 : decode cX0_loansOf 18 = .ok (.iload_n 2, 1) := dk_28 (dk_at dksX0_loansOf_0 18 rfl rfl)
theorem dX0_loansOf_19 : decode cX0_loansOf 19 = .ok (.ifCond .eq 18, 3) := dk_153 0 18 (dk_at dksX0_loansOf_0 19 rfl rfl)
theorem dX0_loansOf_22 : decode cX0_loansOf 22 = .ok (.aload_n 0, 1) := dk_42 (dk_at dksX0_loansOf_0 22 rfl rfl)
theorem dX0_loansOf_23 : decode cX0_loansOf 23 = .ok (.getfield 10, 3) := dk_180 0 10 (dk_at dksX0_loansOf_1 0 rfl rfl)
theorem dX0_loansOf_26 : decode cX0_loansOf 26 = .ok (.getfield 92, 3) := dk_180 0 92 (dk_at dksX0_loansOf_1 3 rfl rfl)
theorem dX0_loansOf_29 : decode cX0_loansOf 29 = .ok (.iload_n 1, 1) := dk_27 (dk_at dksX0_loansOf_1 6 rfl rfl)
theorem dX0_loansOf_30 : decode cX0_loansOf 30 = .ok (.aaload, 1) := dk_50 (dk_at dksX0_loansOf_1 7 rfl rfl)
theorem dX0_loansOf_31 : decode cX0_loansOf 31 = .ok (.iload 4, 2) := dk_21 4 (dk_at dksX0_loansOf_1 8 rfl rfl)
theorem dX0_loansOf_33 : decode cX0_loansOf 33 = .ok (.iaload, 1) := dk_46 (dk_at dksX0_loansOf_1 10 rfl rfl)
theorem dX0_loansOf_34 : decode cX0_loansOf 34 = .ok (.goto 15, 3) := dk_167 0 15 (dk_at dksX0_loansOf_1 11 rfl rfl)
theorem dX0_loansOf_37 : decode cX0_loansOf 37 = .ok (.aload_n 0, 1) := dk_42 (dk_at dksX0_loansOf_1 14 rfl rfl)
theorem dX0_loansOf_38 : decode cX0_loansOf 38 = .ok (.getfield 10, 3) := dk_180 0 10 (dk_at dksX0_loansOf_1 15 rfl rfl)
theorem dX0_loansOf_41 : decode cX0_loansOf 41 = .ok (.getfield 92, 3) := dk_180 0 92 (dk_at dksX0_loansOf_1 18 rfl rfl)
theorem dX0_loansOf_44 : decode cX0_loansOf 44 = .ok (.iload 4, 2) := dk_21 4 (dk_at dksX0_loansOf_1 21 rfl rfl)
theorem dX0_loansOf_46 : decode cX0_loansOf 46 = .ok (.aaload, 1) := dk_50 (dk_at dksX0_loansOf_1 23 rfl rfl)
theorem dX0_loansOf_47 : decode cX0_loansOf 47 = .ok (.iload_n 1, 1) := dk_27 (dk_at dksX0_loansOf_2 0 rfl rfl)
theorem dX0_loansOf_48 : decode cX0_loansOf 48 = .ok (.iaload, 1) := dk_46 (dk_at dksX0_loansOf_2 1 rfl rfl)
theorem dX0_loansOf_49 : decode cX0_loansOf 49 = .ok (.iadd, 1) := dk_96 (dk_at dksX0_loansOf_2 2 rfl rfl)
theorem dX0_loansOf_50 : decode cX0_loansOf 50 = .ok (.istore_n 3, 1) := dk_62 (dk_at dksX0_loansOf_2 3 rfl rfl)
theorem dX0_loansOf_51 : decode cX0_loansOf 51 = .ok (.iinc 4 1, 3) := dk_132 4 1 (dk_at dksX0_loansOf_2 4 rfl rfl)
theorem dX0_loansOf_54 : decode cX0_loansOf 54 = .ok (.goto (-49), 3) := dk_167 255 207 (dk_at dksX0_loansOf_2 7 rfl rfl)
theorem dX0_loansOf_57 : decode cX0_loansOf 57 = .ok (.iload_n 3, 1) := dk_29 (dk_at dksX0_loansOf_2 10 rfl rfl)
theorem dX0_loansOf_58 : decode cX0_loansOf 58 = .ok (.ireturn, 1) := dk_172 (dk_at dksX0_loansOf_2 11 rfl rfl)
def dkwX0_holding_1 : List UInt8 := [180, 0, 10, 180, 0, 87, 27, 50, 28, 46, 167, 0, 4, 2, 172]
abbrev dktX0_holding_1 : List UInt8 := dkwX0_holding_1 ++ []
def dkwX0_holding_0 : List UInt8 := [42, 180, 0, 10, 27, 182, 0, 72, 153, 0, 28, 42, 180, 0, 10, 28, 182, 0, 82, 153, 0, 17, 42]
abbrev dktX0_holding_0 : List UInt8 := dkwX0_holding_0 ++ dktX0_holding_1
theorem dksX0_holding_0 : cX0_holding.data.toList.drop 0 = dktX0_holding_0 := by decide +kernel
theorem dksX0_holding_1 : cX0_holding.data.toList.drop 23 = dktX0_holding_1 := dk_seg dksX0_holding_0 23 rfl rfl
theorem dX0_holding_0 : decode cX0_holding 0 = .ok (.aload_n 0, 1) := dk_42 (dk_at dksX0_holding_0 0 rfl rfl)
theorem dX0_holding_1 : decode cX0_holding 1 = .ok (.getfield 10, 3) := dk_180 0 10 (dk_at dksX0_holding_0 1 rfl rfl)
theorem dX0_holding_4 : decode cX0_holding 4 = .ok (.iload_n 1, 1) := dk_27 (dk_at dksX0_holding_0 4 rfl rfl)
theorem dX0_holding_5 : decode cX0_holding 5 = .ok (.invokevirtual 72, 3) := dk_182 0 72 (dk_at dksX0_holding_0 5 rfl rfl)
theorem dX0_holding_8 : decode cX0_holding 8 = .ok (.ifCond .eq 28, 3) := dk_153 0 28 (dk_at dksX0_holding_0 8 rfl rfl)
theorem dX0_holding_11 : decode cX0_holding 11 = .ok (.aload_n 0, 1) := dk_42 (dk_at dksX0_holding_0 11 rfl rfl)
theorem dX0_holding_12 : decode cX0_holding 12 = .ok (.getfield 10, 3) := dk_180 0 10 (dk_at dksX0_holding_0 12 rfl rfl)
theorem dX0_holding_15 : decode cX0_holding 15 = .ok (.iload_n 2, 1) := dk_28 (dk_at dksX0_holding_0 15 rfl rfl)
theorem dX0_holding_16 : decode cX0_holding 16 = .ok (.invokevirtual 82, 3) := dk_182 0 82 (dk_at dksX0_holding_0 16 rfl rfl)
theorem dX0_holding_19 : decode cX0_holding 19 = .ok (.ifCond .eq 17, 3) := dk_153 0 17 (dk_at dksX0_holding_0 19 rfl rfl)
theorem dX0_holding_22 : decode cX0_holding 22 = .ok (.aload_n 0, 1) := dk_42 (dk_at dksX0_holding_0 22 rfl rfl)
theorem dX0_holding_23 : decode cX0_holding 23 = .ok (.getfield 10, 3) := dk_180 0 10 (dk_at dksX0_holding_1 0 rfl rfl)
theorem dX0_holding_26 : decode cX0_holding 26 = .ok (.getfield 87, 3) := dk_180 0 87 (dk_at dksX0_holding_1 3 rfl rfl)
theorem dX0_holding_29 : decode cX0_holding 29 = .ok (.iload_n 1, 1) := dk_27 (dk_at dksX0_holding_1 6 rfl rfl)
theorem dX0_holding_30 : decode cX0_holding 30 = .ok (.aaload, 1) := dk_50 (dk_at dksX0_holding_1 7 rfl rfl)
theorem dX0_holding_31 : decode cX0_holding 31 = .ok (.iload_n 2, 1) := dk_28 (dk_at dksX0_holding_1 8 rfl rfl)
theorem dX0_holding_32 : decode cX0_holding 32 = .ok (.iaload, 1) := dk_46 (dk_at dksX0_holding_1 9 rfl rfl)
theorem dX0_holding_33 : decode cX0_holding 33 = .ok (.goto 4, 3) := dk_167 0 4 (dk_at dksX0_holding_1 10 rfl rfl)
theorem dX0_holding_36 : decode cX0_holding 36 = .ok (.iconst (-1), 1) := dk_2 (dk_at dksX0_holding_1 13 rfl rfl)
theorem dX0_holding_37 : decode cX0_holding 37 = .ok (.ireturn, 1) := dk_172 (dk_at dksX0_holding_1 14 rfl rfl)
def dkwX0_owes_1 : List UInt8 := [180, 0, 10, 180, 0, 92, 27, 50, 28, 46, 167, 0, 4, 2, 172]
abbrev dktX0_owes_1 : List UInt8 := dkwX0_owes_1 ++ []
def dkwX0_owes_0 : List UInt8 := [42, 180, 0, 10, 27, 182, 0, 72, 153, 0, 28, 42, 180, 0, 10, 28, 182, 0, 72, 153, 0, 17, 42]
abbrev dktX0_owes_0 : List UInt8 := dkwX0_owes_0 ++ dktX0_owes_1
theorem dksX0_owes_0 : cX0_owes.data.toList.drop 0 = dktX0_owes_0 := by decide +kernel
theorem dksX0_owes_1 : cX0_owes.data.toList.drop 23 = dktX0_owes_1 := dk_seg dksX0_owes_0 23 rfl rfl
theorem dX0_owes_0 : decode cX0_owes 0 = .ok (.aload_n 0, 1) := dk_42 (dk_at dksX0_owes_0 0 rfl rfl)
theorem dX0_owes_1 : decode cX0_owes 1 = .ok (.getfield 10, 3) := dk_180 0 10 (dk_at dksX0_owes_0 1 rfl rfl)
theorem dX0_owes_4 : decode cX0_owes 4 = .ok (.iload_n 1, 1) := dk_27 (dk_at dksX0_owes_0 4 rfl rfl)
theorem dX0_owes_5 : decode cX0_owes 5 = .ok (.invokevirtual 72, 3) := dk_182 0 72 (dk_at dksX0_owes_0 5 rfl rfl)
theorem dX0_owes_8 : decode cX0_owes 8 = .ok (.ifCond .eq 28, 3) := dk_153 0 28 (dk_at dksX0_owes_0 8 rfl rfl)
theorem dX0_owes_11 : decode cX0_owes 11 = .ok (.aload_n 0, 1) := dk_42 (dk_at dksX0_owes_0 11 rfl rfl)
theorem dX0_owes_12 : decode cX0_owes 12 = .ok (.getfield 10, 3) := dk_180 0 10 (dk_at dksX0_owes_0 12 rfl rfl)
theorem dX0_owes_15 : decode cX0_owes 15 = .ok (.iload_n 2, 1) := dk_28 (dk_at dksX0_owes_0 15 rfl rfl)
theorem dX0_owes_16 : decode cX0_owes 16 = .ok (.invokevirtual 72, 3) := dk_182 0 72 (dk_at dksX0_owes_0 16 rfl rfl)
theorem dX0_owes_19 : decode cX0_owes 19 = .ok (.ifCond .eq 17, 3) := dk_153 0 17 (dk_at dksX0_owes_0 19 rfl rfl)
theorem dX0_owes_22 : decode cX0_owes 22 = .ok (.aload_n 0, 1) := dk_42 (dk_at dksX0_owes_0 22 rfl rfl)
theorem dX0_owes_23 : decode cX0_owes 23 = .ok (.getfield 10, 3) := dk_180 0 10 (dk_at dksX0_owes_1 0 rfl rfl)
theorem dX0_owes_26 : decode cX0_owes 26 = .ok (.getfield 92, 3) := dk_180 0 92 (dk_at dksX0_owes_1 3 rfl rfl)
theorem dX0_owes_29 : decode cX0_owes 29 = .ok (.iload_n 1, 1) := dk_27 (dk_at dksX0_owes_1 6 rfl rfl)
theorem dX0_owes_30 : decode cX0_owes 30 = .ok (.aaload, 1) := dk_50 (dk_at dksX0_owes_1 7 rfl rfl)
theorem dX0_owes_31 : decode cX0_owes 31 = .ok (.iload_n 2, 1) := dk_28 (dk_at dksX0_owes_1 8 rfl rfl)
theorem dX0_owes_32 : decode cX0_owes 32 = .ok (.iaload, 1) := dk_46 (dk_at dksX0_owes_1 9 rfl rfl)
theorem dX0_owes_33 : decode cX0_owes 33 = .ok (.goto 4, 3) := dk_167 0 4 (dk_at dksX0_owes_1 10 rfl rfl)
theorem dX0_owes_36 : decode cX0_owes 36 = .ok (.iconst (-1), 1) := dk_2 (dk_at dksX0_owes_1 13 rfl rfl)
theorem dX0_owes_37 : decode cX0_owes 37 = .ok (.ireturn, 1) := dk_172 (dk_at dksX0_owes_1 14 rfl rfl)
def dkwX0_ofAsset_3 : List UInt8 := [180, 0, 10, 27, 182, 0, 174, 172, 42, 180, 0, 10, 27, 182, 0, 177, 172, 2, 172]
abbrev dktX0_ofAsset_3 : List UInt8 := dkwX0_ofAsset_3 ++ []
def dkwX0_ofAsset_2 : List UInt8 := [42, 180, 0, 10, 180, 0, 58, 27, 50, 28, 46, 172, 42, 180, 0, 10, 27, 182, 0, 171, 172, 42]
abbrev dktX0_ofAsset_2 : List UInt8 := dkwX0_ofAsset_2 ++ dktX0_ofAsset_3
def dkwX0_ofAsset_1 : List UInt8 := [170, 0, 0, 0, 0, 73, 0, 0, 0, 0, 0, 0, 0, 4, 0, 0, 0, 34, 0, 0, 0, 34, 0, 0, 0, 46, 0, 0, 0, 55, 0, 0, 0, 64]
abbrev dktX0_ofAsset_1 : List UInt8 := dkwX0_ofAsset_1 ++ dktX0_ofAsset_2
def dkwX0_ofAsset_0 : List UInt8 := [42, 180, 0, 10, 27, 182, 0, 82, 154, 0, 5, 2, 172, 28]
abbrev dktX0_ofAsset_0 : List UInt8 := dkwX0_ofAsset_0 ++ dktX0_ofAsset_1
theorem dksX0_ofAsset_0 : cX0_ofAsset.data.toList.drop 0 = dktX0_ofAsset_0 := by decide +kernel
theorem dksX0_ofAsset_1 : cX0_ofAsset.data.toList.drop 14 = dktX0_ofAsset_1 := dk_seg dksX0_ofAsset_0 14 rfl rfl
theorem dksX0_ofAsset_2 : cX0_ofAsset.data.toList.drop 48 = dktX0_ofAsset_2 := dk_seg dksX0_ofAsset_1 34 rfl rfl
theorem dksX0_ofAsset_3 : cX0_ofAsset.data.toList.drop 70 = dktX0_ofAsset_3 := dk_seg dksX0_ofAsset_2 22 rfl rfl
theorem dX0_ofAsset_0 : decode cX0_ofAsset 0 = .ok (.aload_n 0, 1) := dk_42 (dk_at dksX0_ofAsset_0 0 rfl rfl)
theorem dX0_ofAsset_1 : decode cX0_ofAsset 1 = .ok (.getfield 10, 3) := dk_180 0 10 (dk_at dksX0_ofAsset_0 1 rfl rfl)
theorem dX0_ofAsset_4 : decode cX0_ofAsset 4 = .ok (.iload_n 1, 1) := dk_27 (dk_at dksX0_ofAsset_0 4 rfl rfl)
theorem dX0_ofAsset_5 : decode cX0_ofAsset 5 = .ok (.invokevirtual 82, 3) := dk_182 0 82 (dk_at dksX0_ofAsset_0 5 rfl rfl)
theorem dX0_ofAsset_8 : decode cX0_ofAsset 8 = .ok (.ifCond .ne 5, 3) := dk_154 0 5 (dk_at dksX0_ofAsset_0 8 rfl rfl)
theorem dX0_ofAsset_11 : decode cX0_ofAsset 11 = .ok (.iconst (-1), 1) := dk_2 (dk_at dksX0_ofAsset_0 11 rfl rfl)
theorem dX0_ofAsset_12 : decode cX0_ofAsset 12 = .ok (.ireturn, 1) := dk_172 (dk_at dksX0_ofAsset_0 12 rfl rfl)
theorem dX0_ofAsset_13 : decode cX0_ofAsset 13 = .ok (.iload_n 2, 1) := dk_28 (dk_at dksX0_ofAsset_0 13 rfl rfl)
theorem dX0_ofAsset_14 : decode cX0_ofAsset 14 = .ok (.tableswitch 73 0 4 #[34, 34, 46, 55, 64], 34) := by decide +kernel
theorem dX0_ofAsset_48 : decode cX0_ofAsset 48 = .ok (.aload_n 0, 1) := dk_42 (dk_at dksX0_ofAsset_2 0 rfl rfl)
theorem dX0_ofAsset_49 : decode cX0_ofAsset 49 = .ok (.getfield 10, 3) := dk_180 0 10 (dk_at dksX0_ofAsset_2 1 rfl rfl)
theorem dX0_ofAsset_52 : decode cX0_ofAsset 52 = .ok (.getfield 58, 3) := dk_180 0 58 (dk_at dksX0_ofAsset_2 4 rfl rfl)
theorem dX0_ofAsset_55 : decode cX0_ofAsset 55 = .ok (.iload_n 1, 1) := dk_27 (dk_at dksX0_ofAsset_2 7 rfl rfl)
theorem dX0_ofAsset_56 : decode cX0_ofAsset 56 = .ok (.aaload, 1) := dk_50 (dk_at dksX0_ofAsset_2 8 rfl rfl)
theorem dX0_ofAsset_57 : decode cX0_ofAsset 57 = .ok (.iload_n 2, 1) := dk_28 (dk_at dksX0_ofAsset_2 9 rfl rfl)
theorem dX0_ofAsset_58 : decode cX0_ofAsset 58 = .ok (.iaload, 1) := dk_46 (dk_at dksX0_ofAsset_2 10 rfl rfl)
theorem dX0_ofAsset_59 : decode cX0_ofAsset 59 = .ok (.ireturn, 1) := dk_172 (dk_at dksX0_ofAsset_2 11 rfl rfl)
theorem dX0_ofAsset_60 : decode cX0_ofAsset 60 = .ok (.aload_n 0, 1) := dk_42 (dk_at dksX0_ofAsset_2 12 rfl rfl)
theorem dX0_ofAsset_61 : decode cX0_ofAsset 61 = .ok (.getfield 10, 3) := dk_180 0 10 (dk_at dksX0_ofAsset_2 13 rfl rfl)
theorem dX0_ofAsset_64 : decode cX0_ofAsset 64 = .ok (.iload_n 1, 1) := dk_27 (dk_at dksX0_ofAsset_2 16 rfl rfl)
theorem dX0_ofAsset_65 : decode cX0_ofAsset 65 = .ok (.invokevirtual 171, 3) := dk_182 0 171 (dk_at dksX0_ofAsset_2 17 rfl rfl)
theorem dX0_ofAsset_68 : decode cX0_ofAsset 68 = .ok (.ireturn, 1) := dk_172 (dk_at dksX0_ofAsset_2 20 rfl rfl)
theorem dX0_ofAsset_69 : decode cX0_ofAsset 69 = .ok (.aload_n 0, 1) := dk_42 (dk_at dksX0_ofAsset_2 21 rfl rfl)
theorem dX0_ofAsset_70 : decode cX0_ofAsset 70 = .ok (.getfield 10, 3) := dk_180 0 10 (dk_at dksX0_ofAsset_3 0 rfl rfl)
theorem dX0_ofAsset_73 : decode cX0_ofAsset 73 = .ok (.iload_n 1, 1) := dk_27 (dk_at dksX0_ofAsset_3 3 rfl rfl)
theorem dX0_ofAsset_74 : decode cX0_ofAsset 74 = .ok (.invokevirtual 174, 3) := dk_182 0 174 (dk_at dksX0_ofAsset_3 4 rfl rfl)
theorem dX0_ofAsset_77 : decode cX0_ofAsset 77 = .ok (.ireturn, 1) := dk_172 (dk_at dksX0_ofAsset_3 7 rfl rfl)
theorem dX0_ofAsset_78 : decode cX0_ofAsset 78 = .ok (.aload_n 0, 1) := dk_42 (dk_at dksX0_ofAsset_3 8 rfl rfl)
theorem dX0_ofAsset_79 : decode cX0_ofAsset 79 = .ok (.getfield 10, 3) := dk_180 0 10 (dk_at dksX0_ofAsset_3 9 rfl rfl)
theorem dX0_ofAsset_82 : decode cX0_ofAsset 82 = .ok (.iload_n 1, 1) := dk_27 (dk_at dksX0_ofAsset_3 12 rfl rfl)
theorem dX0_ofAsset_83 : decode cX0_ofAsset 83 = .ok (.invokevirtual 177, 3) := dk_182 0 177 (dk_at dksX0_ofAsset_3 13 rfl rfl)
theorem dX0_ofAsset_86 : decode cX0_ofAsset 86 = .ok (.ireturn, 1) := dk_172 (dk_at dksX0_ofAsset_3 16 rfl rfl)
theorem dX0_ofAsset_87 : decode cX0_ofAsset 87 = .ok (.iconst (-1), 1) := dk_2 (dk_at dksX0_ofAsset_3 17 rfl rfl)
theorem dX0_ofAsset_88 : decode cX0_ofAsset 88 = .ok (.ireturn, 1) := dk_172 (dk_at dksX0_ofAsset_3 18 rfl rfl)
def dkwX0_shelf_3 : List UInt8 := [25, 4, 180, 0, 189, 167, 0, 17, 29, 5, 160, 0, 11, 25, 4, 180, 0, 192, 167, 0, 4, 2, 172]
abbrev dktX0_shelf_3 : List UInt8 := dkwX0_shelf_3 ++ []
def dkwX0_shelf_2 : List UInt8 := [180, 0, 180, 28, 50, 58, 4, 29, 154, 0, 11, 25, 4, 182, 0, 184, 167, 0, 30, 29, 4, 160, 0, 11]
abbrev dktX0_shelf_2 : List UInt8 := dkwX0_shelf_2 ++ dktX0_shelf_3
def dkwX0_shelf_1 : List UInt8 := [180, 0, 117, 4, 100, 133, 184, 0, 45, 154, 0, 5, 2, 172, 42, 180, 0, 10, 180, 0, 107, 27, 50]
abbrev dktX0_shelf_1 : List UInt8 := dkwX0_shelf_1 ++ dktX0_shelf_2
def dkwX0_shelf_0 : List UInt8 := [27, 133, 9, 20, 0, 95, 184, 0, 45, 153, 0, 27, 28, 133, 9, 42, 180, 0, 10, 180, 0, 107, 27, 50]
abbrev dktX0_shelf_0 : List UInt8 := dkwX0_shelf_0 ++ dktX0_shelf_1
theorem dksX0_shelf_0 : cX0_shelf.data.toList.drop 0 = dktX0_shelf_0 := by decide +kernel
theorem dksX0_shelf_1 : cX0_shelf.data.toList.drop 24 = dktX0_shelf_1 := dk_seg dksX0_shelf_0 24 rfl rfl
theorem dksX0_shelf_2 : cX0_shelf.data.toList.drop 47 = dktX0_shelf_2 := dk_seg dksX0_shelf_1 23 rfl rfl
theorem dksX0_shelf_3 : cX0_shelf.data.toList.drop 71 = dktX0_shelf_3 := dk_seg dksX0_shelf_2 24 rfl rfl
theorem dX0_shelf_0 : decode cX0_shelf 0 = .ok (.iload_n 1, 1) := dk_27 (dk_at dksX0_shelf_0 0 rfl rfl)
theorem dX0_shelf_1 : decode cX0_shelf 1 = .ok (.i2l, 1) := dk_133 (dk_at dksX0_shelf_0 1 rfl rfl)
theorem dX0_shelf_2 : decode cX0_shelf 2 = .ok (.lconst 0, 1) := dk_9 (dk_at dksX0_shelf_0 2 rfl rfl)
theorem dX0_shelf_3 : decode cX0_shelf 3 = .ok (.ldc2_w 95, 3) := dk_20 0 95 (dk_at dksX0_shelf_0 3 rfl rfl)
theorem dX0_shelf_6 : decode cX0_shelf 6 = .ok (.invokestatic 45, 3) := dk_184 0 45 (dk_at dksX0_shelf_0 6 rfl rfl)
theorem dX0_shelf_9 : decode cX0_shelf 9 = .ok (.ifCond .eq 27, 3) := dk_153 0 27 (dk_at dksX0_shelf_0 9 rfl rfl)
theorem dX0_shelf_12 : decode cX0_shelf 12 = .ok (.iload_n 2, 1) := dk_28 (dk_at dksX0_shelf_0 12 rfl rfl)
theorem dX0_shelf_13 : decode cX0_shelf 13 = .ok (.i2l, 1) := dk_133 (dk_at dksX0_shelf_0 13 rfl rfl)
theorem dX0_shelf_14 : decode cX0_shelf 14 = .ok (.lconst 0, 1) := dk_9 (dk_at dksX0_shelf_0 14 rfl rfl)
theorem dX0_shelf_15 : decode cX0_shelf 15 = .ok (.aload_n 0, 1) := dk_42 (dk_at dksX0_shelf_0 15 rfl rfl)
theorem dX0_shelf_16 : decode cX0_shelf 16 = .ok (.getfield 10, 3) := dk_180 0 10 (dk_at dksX0_shelf_0 16 rfl rfl)
theorem dX0_shelf_19 : decode cX0_shelf 19 = .ok (.getfield 107, 3) := dk_180 0 107 (dk_at dksX0_shelf_0 19 rfl rfl)
theorem dX0_shelf_22 : decode cX0_shelf 22 = .ok (.iload_n 1, 1) := dk_27 (dk_at dksX0_shelf_0 22 rfl rfl)
theorem dX0_shelf_23 : decode cX0_shelf 23 = .ok (.aaload, 1) := dk_50 (dk_at dksX0_shelf_0 23 rfl rfl)
theorem dX0_shelf_24 : decode cX0_shelf 24 = .ok (.getfield 117, 3) := dk_180 0 117 (dk_at dksX0_shelf_1 0 rfl rfl)
theorem dX0_shelf_27 : decode cX0_shelf 27 = .ok (.iconst 1, 1) := dk_4 (dk_at dksX0_shelf_1 3 rfl rfl)
theorem dX0_shelf_28 : decode cX0_shelf 28 = .ok (.isub, 1) := dk_100 (dk_at dksX0_shelf_1 4 rfl rfl)
theorem dX0_shelf_29 : decode cX0_shelf 29 = .ok (.i2l, 1) := dk_133 (dk_at dksX0_shelf_1 5 rfl rfl)
theorem dX0_shelf_30 : decode cX0_shelf 30 = .ok (.invokestatic 45, 3) := dk_184 0 45 (dk_at dksX0_shelf_1 6 rfl rfl)
theorem dX0_shelf_33 : decode cX0_shelf 33 = .ok (.ifCond .ne 5, 3) := dk_154 0 5 (dk_at dksX0_shelf_1 9 rfl rfl)
theorem dX0_shelf_36 : decode cX0_shelf 36 = .ok (.iconst (-1), 1) := dk_2 (dk_at dksX0_shelf_1 12 rfl rfl)
theorem dX0_shelf_37 : decode cX0_shelf 37 = .ok (.ireturn, 1) := dk_172 (dk_at dksX0_shelf_1 13 rfl rfl)
theorem dX0_shelf_38 : decode cX0_shelf 38 = .ok (.aload_n 0, 1) := dk_42 (dk_at dksX0_shelf_1 14 rfl rfl)
theorem dX0_shelf_39 : decode cX0_shelf 39 = .ok (.getfield 10, 3) := dk_180 0 10 (dk_at dksX0_shelf_1 15 rfl rfl)
theorem dX0_shelf_42 : decode cX0_shelf 42 = .ok (.getfield 107, 3) := dk_180 0 107 (dk_at dksX0_shelf_1 18 rfl rfl)
theorem dX0_shelf_45 : decode cX0_shelf 45 = .ok (.iload_n 1, 1) := dk_27 (dk_at dksX0_shelf_1 21 rfl rfl)
theorem dX0_shelf_46 : decode cX0_shelf 46 = .ok (.aaload, 1) := dk_50 (dk_at dksX0_shelf_1 22 rfl rfl)
theorem dX0_shelf_47 : decode cX0_shelf 47 = .ok (.getfield 180, 3) := dk_180 0 180 (dk_at dksX0_shelf_2 0 rfl rfl)
theorem dX0_shelf_50 : decode cX0_shelf 50 = .ok (.iload_n 2, 1) := dk_28 (dk_at dksX0_shelf_2 3 rfl rfl)
theorem dX0_shelf_51 : decode cX0_shelf 51 = .ok (.aaload, 1) := dk_50 (dk_at dksX0_shelf_2 4 rfl rfl)
theorem dX0_shelf_52 : decode cX0_shelf 52 = .ok (.astore 4, 2) := dk_58 4 (dk_at dksX0_shelf_2 5 rfl rfl)
theorem dX0_shelf_54 : decode cX0_shelf 54 = .ok (.iload_n 3, 1) := dk_29 (dk_at dksX0_shelf_2 7 rfl rfl)
theorem dX0_shelf_55 : decode cX0_shelf 55 = .ok (.ifCond .ne 11, 3) := dk_154 0 11 (dk_at dksX0_shelf_2 8 rfl rfl)
theorem dX0_shelf_58 : decode cX0_shelf 58 = .ok (.aload 4, 2) := dk_25 4 (dk_at dksX0_shelf_2 11 rfl rfl)
theorem dX0_shelf_60 : decode cX0_shelf 60 = .ok (.invokevirtual 184, 3) := dk_182 0 184 (dk_at dksX0_shelf_2 13 rfl rfl)
theorem dX0_shelf_63 : decode cX0_shelf 63 = .ok (.goto 30, 3) := dk_167 0 30 (dk_at dksX0_shelf_2 16 rfl rfl)
theorem dX0_shelf_66 : decode cX0_shelf 66 = .ok (.iload_n 3, 1) := dk_29 (dk_at dksX0_shelf_2 19 rfl rfl)
theorem dX0_shelf_67 : decode cX0_shelf 67 = .ok (.iconst 1, 1) := dk_4 (dk_at dksX0_shelf_2 20 rfl rfl)
theorem dX0_shelf_68 : decode cX0_shelf 68 = .ok (.if_icmp .ne 11, 3) := dk_160 0 11 (dk_at dksX0_shelf_2 21 rfl rfl)
theorem dX0_shelf_71 : decode cX0_shelf 71 = .ok (.aload 4, 2) := dk_25 4 (dk_at dksX0_shelf_3 0 rfl rfl)
theorem dX0_shelf_73 : decode cX0_shelf 73 = .ok (.getfield 189, 3) := dk_180 0 189 (dk_at dksX0_shelf_3 2 rfl rfl)
theorem dX0_shelf_76 : decode cX0_shelf 76 = .ok (.goto 17, 3) := dk_167 0 17 (dk_at dksX0_shelf_3 5 rfl rfl)
theorem dX0_shelf_79 : decode cX0_shelf 79 = .ok (.iload_n 3, 1) := dk_29 (dk_at dksX0_shelf_3 8 rfl rfl)
theorem dX0_shelf_80 : decode cX0_shelf 80 = .ok (.iconst 2, 1) := dk_5 (dk_at dksX0_shelf_3 9 rfl rfl)
theorem dX0_shelf_81 : decode cX0_shelf 81 = .ok (.if_icmp .ne 11, 3) := dk_160 0 11 (dk_at dksX0_shelf_3 10 rfl rfl)
theorem dX0_shelf_84 : decode cX0_shelf 84 = .ok (.aload 4, 2) := dk_25 4 (dk_at dksX0_shelf_3 13 rfl rfl)
theorem dX0_shelf_86 : decode cX0_shelf 86 = .ok (.getfield 192, 3) := dk_180 0 192 (dk_at dksX0_shelf_3 15 rfl rfl)
theorem dX0_shelf_89 : decode cX0_shelf 89 = .ok (.goto 4, 3) := dk_167 0 4 (dk_at dksX0_shelf_3 18 rfl rfl)
theorem dX0_shelf_92 : decode cX0_shelf 92 = .ok (.iconst (-1), 1) := dk_2 (dk_at dksX0_shelf_3 21 rfl rfl)
theorem dX0_shelf_93 : decode cX0_shelf 93 = .ok (.ireturn, 1) := dk_172 (dk_at dksX0_shelf_3 22 rfl rfl)
def dkwX0_state_1 : List UInt8 := [180, 0, 10, 27, 182, 0, 202, 28, 182, 0, 206, 167, 0, 4, 2, 172]
abbrev dktX0_state_1 : List UInt8 := dkwX0_state_1 ++ []
def dkwX0_state_0 : List UInt8 := [27, 184, 0, 197, 153, 0, 34, 28, 133, 9, 20, 0, 200, 184, 0, 45, 153, 0, 22, 42, 180, 0, 10, 42]
abbrev dktX0_state_0 : List UInt8 := dkwX0_state_0 ++ dktX0_state_1
theorem dksX0_state_0 : cX0_state.data.toList.drop 0 = dktX0_state_0 := by decide +kernel
theorem dksX0_state_1 : cX0_state.data.toList.drop 24 = dktX0_state_1 := dk_seg dksX0_state_0 24 rfl rfl
theorem dX0_state_0 : decode cX0_state 0 = .ok (.iload_n 1, 1) := dk_27 (dk_at dksX0_state_0 0 rfl rfl)
theorem dX0_state_1 : decode cX0_state 1 = .ok (.invokestatic 197, 3) := dk_184 0 197 (dk_at dksX0_state_0 1 rfl rfl)
theorem dX0_state_4 : decode cX0_state 4 = .ok (.ifCond .eq 34, 3) := dk_153 0 34 (dk_at dksX0_state_0 4 rfl rfl)
theorem dX0_state_7 : decode cX0_state 7 = .ok (.iload_n 2, 1) := dk_28 (dk_at dksX0_state_0 7 rfl rfl)
theorem dX0_state_8 : decode cX0_state 8 = .ok (.i2l, 1) := dk_133 (dk_at dksX0_state_0 8 rfl rfl)
theorem dX0_state_9 : decode cX0_state 9 = .ok (.lconst 0, 1) := dk_9 (dk_at dksX0_state_0 9 rfl rfl)
theorem dX0_state_10 : decode cX0_state 10 = .ok (.ldc2_w 200, 3) := dk_20 0 200 (dk_at dksX0_state_0 10 rfl rfl)
theorem dX0_state_13 : decode cX0_state 13 = .ok (.invokestatic 45, 3) := dk_184 0 45 (dk_at dksX0_state_0 13 rfl rfl)
theorem dX0_state_16 : decode cX0_state 16 = .ok (.ifCond .eq 22, 3) := dk_153 0 22 (dk_at dksX0_state_0 16 rfl rfl)
theorem dX0_state_19 : decode cX0_state 19 = .ok (.aload_n 0, 1) := dk_42 (dk_at dksX0_state_0 19 rfl rfl)
theorem dX0_state_20 : decode cX0_state 20 = .ok (.getfield 10, 3) := dk_180 0 10 (dk_at dksX0_state_0 20 rfl rfl)
theorem dX0_state_23 : decode cX0_state 23 = .ok (.aload_n 0, 1) := dk_42 (dk_at dksX0_state_0 23 rfl rfl)
theorem dX0_state_24 : decode cX0_state 24 = .ok (.getfield 10, 3) := dk_180 0 10 (dk_at dksX0_state_1 0 rfl rfl)
theorem dX0_state_27 : decode cX0_state 27 = .ok (.iload_n 1, 1) := dk_27 (dk_at dksX0_state_1 3 rfl rfl)
theorem dX0_state_28 : decode cX0_state 28 = .ok (.invokevirtual 202, 3) := dk_182 0 202 (dk_at dksX0_state_1 4 rfl rfl)
theorem dX0_state_31 : decode cX0_state 31 = .ok (.iload_n 2, 1) := dk_28 (dk_at dksX0_state_1 7 rfl rfl)
theorem dX0_state_32 : decode cX0_state 32 = .ok (.invokevirtual 206, 3) := dk_182 0 206 (dk_at dksX0_state_1 8 rfl rfl)
theorem dX0_state_35 : decode cX0_state 35 = .ok (.goto 4, 3) := dk_167 0 4 (dk_at dksX0_state_1 11 rfl rfl)
theorem dX0_state_38 : decode cX0_state 38 = .ok (.iconst (-1), 1) := dk_2 (dk_at dksX0_state_1 14 rfl rfl)
theorem dX0_state_39 : decode cX0_state 39 = .ok (.ireturn, 1) := dk_172 (dk_at dksX0_state_1 15 rfl rfl)
def dkwX0_isState_0 : List UInt8 := [26, 133, 9, 20, 0, 195, 184, 0, 45, 172]
abbrev dktX0_isState_0 : List UInt8 := dkwX0_isState_0 ++ []
theorem dksX0_isState_0 : cX0_isState.data.toList.drop 0 = dktX0_isState_0 := by decide +kernel
theorem dX0_isState_0 : decode cX0_isState 0 = .ok (.iload_n 0, 1) := dk_26 (dk_at dksX0_isState_0 0 rfl rfl)
theorem dX0_isState_1 : decode cX0_isState 1 = .ok (.i2l, 1) := dk_133 (dk_at dksX0_isState_0 1 rfl rfl)
theorem dX0_isState_2 : decode cX0_isState 2 = .ok (.lconst 0, 1) := dk_9 (dk_at dksX0_isState_0 2 rfl rfl)
theorem dX0_isState_3 : decode cX0_isState 3 = .ok (.ldc2_w 195, 3) := dk_20 0 195 (dk_at dksX0_isState_0 3 rfl rfl)
theorem dX0_isState_6 : decode cX0_isState 6 = .ok (.invokestatic 45, 3) := dk_184 0 45 (dk_at dksX0_isState_0 6 rfl rfl)
theorem dX0_isState_9 : decode cX0_isState 9 = .ok (.ireturn, 1) := dk_172 (dk_at dksX0_isState_0 9 rfl rfl)
def dkwX0_rounds_1 : List UInt8 := [182, 0, 213, 182, 0, 216, 172]
abbrev dktX0_rounds_1 : List UInt8 := dkwX0_rounds_1 ++ []
def dkwX0_rounds_0 : List UInt8 := [42, 180, 0, 10, 27, 153, 0, 13, 42, 180, 0, 10, 182, 0, 210, 167, 0, 10, 42, 180, 0, 10]
abbrev dktX0_rounds_0 : List UInt8 := dkwX0_rounds_0 ++ dktX0_rounds_1
theorem dksX0_rounds_0 : cX0_rounds.data.toList.drop 0 = dktX0_rounds_0 := by decide +kernel
theorem dksX0_rounds_1 : cX0_rounds.data.toList.drop 22 = dktX0_rounds_1 := dk_seg dksX0_rounds_0 22 rfl rfl
theorem dX0_rounds_0 : decode cX0_rounds 0 = .ok (.aload_n 0, 1) := dk_42 (dk_at dksX0_rounds_0 0 rfl rfl)
theorem dX0_rounds_1 : decode cX0_rounds 1 = .ok (.getfield 10, 3) := dk_180 0 10 (dk_at dksX0_rounds_0 1 rfl rfl)
theorem dX0_rounds_4 : decode cX0_rounds 4 = .ok (.iload_n 1, 1) := dk_27 (dk_at dksX0_rounds_0 4 rfl rfl)
theorem dX0_rounds_5 : decode cX0_rounds 5 = .ok (.ifCond .eq 13, 3) := dk_153 0 13 (dk_at dksX0_rounds_0 5 rfl rfl)
theorem dX0_rounds_8 : decode cX0_rounds 8 = .ok (.aload_n 0, 1) := dk_42 (dk_at dksX0_rounds_0 8 rfl rfl)
theorem dX0_rounds_9 : decode cX0_rounds 9 = .ok (.getfield 10, 3) := dk_180 0 10 (dk_at dksX0_rounds_0 9 rfl rfl)
theorem dX0_rounds_12 : decode cX0_rounds 12 = .ok (.invokevirtual 210, 3) := dk_182 0 210 (dk_at dksX0_rounds_0 12 rfl rfl)
theorem dX0_rounds_15 : decode cX0_rounds 15 = .ok (.goto 10, 3) := dk_167 0 10 (dk_at dksX0_rounds_0 15 rfl rfl)
theorem dX0_rounds_18 : decode cX0_rounds 18 = .ok (.aload_n 0, 1) := dk_42 (dk_at dksX0_rounds_0 18 rfl rfl)
theorem dX0_rounds_19 : decode cX0_rounds 19 = .ok (.getfield 10, 3) := dk_180 0 10 (dk_at dksX0_rounds_0 19 rfl rfl)
theorem dX0_rounds_22 : decode cX0_rounds 22 = .ok (.invokevirtual 213, 3) := dk_182 0 213 (dk_at dksX0_rounds_1 0 rfl rfl)
theorem dX0_rounds_25 : decode cX0_rounds 25 = .ok (.invokevirtual 216, 3) := dk_182 0 216 (dk_at dksX0_rounds_1 3 rfl rfl)
theorem dX0_rounds_28 : decode cX0_rounds 28 = .ok (.ireturn, 1) := dk_172 (dk_at dksX0_rounds_1 6 rfl rfl)
def dkwX0_price_1 : List UInt8 := [180, 0, 10, 27, 182, 0, 202, 28, 182, 0, 219, 167, 0, 4, 2, 172]
abbrev dktX0_price_1 : List UInt8 := dkwX0_price_1 ++ []
def dkwX0_price_0 : List UInt8 := [27, 184, 0, 197, 153, 0, 33, 42, 180, 0, 10, 28, 182, 0, 82, 153, 0, 22, 42, 180, 0, 10, 42]
abbrev dktX0_price_0 : List UInt8 := dkwX0_price_0 ++ dktX0_price_1
theorem dksX0_price_0 : cX0_price.data.toList.drop 0 = dktX0_price_0 := by decide +kernel
theorem dksX0_price_1 : cX0_price.data.toList.drop 23 = dktX0_price_1 := dk_seg dksX0_price_0 23 rfl rfl
theorem dX0_price_0 : decode cX0_price 0 = .ok (.iload_n 1, 1) := dk_27 (dk_at dksX0_price_0 0 rfl rfl)
theorem dX0_price_1 : decode cX0_price 1 = .ok (.invokestatic 197, 3) := dk_184 0 197 (dk_at dksX0_price_0 1 rfl rfl)
theorem dX0_price_4 : decode cX0_price 4 = .ok (.ifCond .eq 33, 3) := dk_153 0 33 (dk_at dksX0_price_0 4 rfl rfl)
theorem dX0_price_7 : decode cX0_price 7 = .ok (.aload_n 0, 1) := dk_42 (dk_at dksX0_price_0 7 rfl rfl)
theorem dX0_price_8 : decode cX0_price 8 = .ok (.getfield 10, 3) := dk_180 0 10 (dk_at dksX0_price_0 8 rfl rfl)
theorem dX0_price_11 : decode cX0_price 11 = .ok (.iload_n 2, 1) := dk_28 (dk_at dksX0_price_0 11 rfl rfl)
theorem dX0_price_12 : decode cX0_price 12 = .ok (.invokevirtual 82, 3) := dk_182 0 82 (dk_at dksX0_price_0 12 rfl rfl)
theorem dX0_price_15 : decode cX0_price 15 = .ok (.ifCond .eq 22, 3) := dk_153 0 22 (dk_at dksX0_price_0 15 rfl rfl)
theorem dX0_price_18 : decode cX0_price 18 = .ok (.aload_n 0, 1) := dk_42 (dk_at dksX0_price_0 18 rfl rfl)
theorem dX0_price_19 : decode cX0_price 19 = .ok (.getfield 10, 3) := dk_180 0 10 (dk_at dksX0_price_0 19 rfl rfl)
theorem dX0_price_22 : decode cX0_price 22 = .ok (.aload_n 0, 1) := dk_42 (dk_at dksX0_price_0 22 rfl rfl)
theorem dX0_price_23 : decode cX0_price 23 = .ok (.getfield 10, 3) := dk_180 0 10 (dk_at dksX0_price_1 0 rfl rfl)
theorem dX0_price_26 : decode cX0_price 26 = .ok (.iload_n 1, 1) := dk_27 (dk_at dksX0_price_1 3 rfl rfl)
theorem dX0_price_27 : decode cX0_price 27 = .ok (.invokevirtual 202, 3) := dk_182 0 202 (dk_at dksX0_price_1 4 rfl rfl)
theorem dX0_price_30 : decode cX0_price 30 = .ok (.iload_n 2, 1) := dk_28 (dk_at dksX0_price_1 7 rfl rfl)
theorem dX0_price_31 : decode cX0_price 31 = .ok (.invokevirtual 219, 3) := dk_182 0 219 (dk_at dksX0_price_1 8 rfl rfl)
theorem dX0_price_34 : decode cX0_price 34 = .ok (.goto 4, 3) := dk_167 0 4 (dk_at dksX0_price_1 11 rfl rfl)
theorem dX0_price_37 : decode cX0_price 37 = .ok (.iconst (-1), 1) := dk_2 (dk_at dksX0_price_1 14 rfl rfl)
theorem dX0_price_38 : decode cX0_price 38 = .ok (.ireturn, 1) := dk_172 (dk_at dksX0_price_1 15 rfl rfl)
def dkwX0_worth_1 : List UInt8 := [180, 0, 10, 27, 182, 0, 202, 28, 182, 0, 222, 167, 0, 5, 18, 225, 172]
abbrev dktX0_worth_1 : List UInt8 := dkwX0_worth_1 ++ []
def dkwX0_worth_0 : List UInt8 := [27, 184, 0, 197, 153, 0, 33, 42, 180, 0, 10, 28, 182, 0, 72, 153, 0, 22, 42, 180, 0, 10, 42]
abbrev dktX0_worth_0 : List UInt8 := dkwX0_worth_0 ++ dktX0_worth_1
theorem dksX0_worth_0 : cX0_worth.data.toList.drop 0 = dktX0_worth_0 := by decide +kernel
theorem dksX0_worth_1 : cX0_worth.data.toList.drop 23 = dktX0_worth_1 := dk_seg dksX0_worth_0 23 rfl rfl
theorem dX0_worth_0 : decode cX0_worth 0 = .ok (.iload_n 1, 1) := dk_27 (dk_at dksX0_worth_0 0 rfl rfl)
theorem dX0_worth_1 : decode cX0_worth 1 = .ok (.invokestatic 197, 3) := dk_184 0 197 (dk_at dksX0_worth_0 1 rfl rfl)
theorem dX0_worth_4 : decode cX0_worth 4 = .ok (.ifCond .eq 33, 3) := dk_153 0 33 (dk_at dksX0_worth_0 4 rfl rfl)
theorem dX0_worth_7 : decode cX0_worth 7 = .ok (.aload_n 0, 1) := dk_42 (dk_at dksX0_worth_0 7 rfl rfl)
theorem dX0_worth_8 : decode cX0_worth 8 = .ok (.getfield 10, 3) := dk_180 0 10 (dk_at dksX0_worth_0 8 rfl rfl)
theorem dX0_worth_11 : decode cX0_worth 11 = .ok (.iload_n 2, 1) := dk_28 (dk_at dksX0_worth_0 11 rfl rfl)
theorem dX0_worth_12 : decode cX0_worth 12 = .ok (.invokevirtual 72, 3) := dk_182 0 72 (dk_at dksX0_worth_0 12 rfl rfl)
theorem dX0_worth_15 : decode cX0_worth 15 = .ok (.ifCond .eq 22, 3) := dk_153 0 22 (dk_at dksX0_worth_0 15 rfl rfl)
theorem dX0_worth_18 : decode cX0_worth 18 = .ok (.aload_n 0, 1) := dk_42 (dk_at dksX0_worth_0 18 rfl rfl)
theorem dX0_worth_19 : decode cX0_worth 19 = .ok (.getfield 10, 3) := dk_180 0 10 (dk_at dksX0_worth_0 19 rfl rfl)
theorem dX0_worth_22 : decode cX0_worth 22 = .ok (.aload_n 0, 1) := dk_42 (dk_at dksX0_worth_0 22 rfl rfl)
theorem dX0_worth_23 : decode cX0_worth 23 = .ok (.getfield 10, 3) := dk_180 0 10 (dk_at dksX0_worth_1 0 rfl rfl)
theorem dX0_worth_26 : decode cX0_worth 26 = .ok (.iload_n 1, 1) := dk_27 (dk_at dksX0_worth_1 3 rfl rfl)
theorem dX0_worth_27 : decode cX0_worth 27 = .ok (.invokevirtual 202, 3) := dk_182 0 202 (dk_at dksX0_worth_1 4 rfl rfl)
theorem dX0_worth_30 : decode cX0_worth 30 = .ok (.iload_n 2, 1) := dk_28 (dk_at dksX0_worth_1 7 rfl rfl)
theorem dX0_worth_31 : decode cX0_worth 31 = .ok (.invokevirtual 222, 3) := dk_182 0 222 (dk_at dksX0_worth_1 8 rfl rfl)
theorem dX0_worth_34 : decode cX0_worth 34 = .ok (.goto 5, 3) := dk_167 0 5 (dk_at dksX0_worth_1 11 rfl rfl)
theorem dX0_worth_37 : decode cX0_worth 37 = .ok (.ldc 225, 2) := dk_18 225 (dk_at dksX0_worth_1 14 rfl rfl)
theorem dX0_worth_39 : decode cX0_worth 39 = .ok (.ireturn, 1) := dk_172 (dk_at dksX0_worth_1 16 rfl rfl)
def dkwX0_mustSell_3 : List UInt8 := [182, 0, 229, 29, 46, 172]
abbrev dktX0_mustSell_3 : List UInt8 := dkwX0_mustSell_3 ++ []
def dkwX0_mustSell_2 : List UInt8 := [160, 0, 16, 42, 180, 0, 10, 25, 4, 28, 182, 0, 226, 167, 0, 15, 42, 180, 0, 10, 25, 4, 28]
abbrev dktX0_mustSell_2 : List UInt8 := dkwX0_mustSell_2 ++ dktX0_mustSell_3
def dkwX0_mustSell_1 : List UInt8 := [180, 0, 10, 29, 182, 0, 82, 154, 0, 5, 2, 172, 42, 180, 0, 10, 27, 182, 0, 202, 58, 4, 29, 2]
abbrev dktX0_mustSell_1 : List UInt8 := dkwX0_mustSell_1 ++ dktX0_mustSell_2
def dkwX0_mustSell_0 : List UInt8 := [27, 184, 0, 197, 153, 0, 30, 42, 180, 0, 10, 28, 182, 0, 72, 153, 0, 19, 29, 2, 159, 0, 16, 42]
abbrev dktX0_mustSell_0 : List UInt8 := dkwX0_mustSell_0 ++ dktX0_mustSell_1
theorem dksX0_mustSell_0 : cX0_mustSell.data.toList.drop 0 = dktX0_mustSell_0 := by decide +kernel
theorem dksX0_mustSell_1 : cX0_mustSell.data.toList.drop 24 = dktX0_mustSell_1 := dk_seg dksX0_mustSell_0 24 rfl rfl
theorem dksX0_mustSell_2 : cX0_mustSell.data.toList.drop 48 = dktX0_mustSell_2 := dk_seg dksX0_mustSell_1 24 rfl rfl
theorem dksX0_mustSell_3 : cX0_mustSell.data.toList.drop 71 = dktX0_mustSell_3 := dk_seg dksX0_mustSell_2 23 rfl rfl
theorem dX0_mustSell_0 : decode cX0_mustSell 0 = .ok (.iload_n 1, 1) := dk_27 (dk_at dksX0_mustSell_0 0 rfl rfl)
theorem dX0_mustSell_1 : decode cX0_mustSell 1 = .ok (.invokestatic 197, 3) := dk_184 0 197 (dk_at dksX0_mustSell_0 1 rfl rfl)
theorem dX0_mustSell_4 : decode cX0_mustSell 4 = .ok (.ifCond .eq 30, 3) := dk_153 0 30 (dk_at dksX0_mustSell_0 4 rfl rfl)
theorem dX0_mustSell_7 : decode cX0_mustSell 7 = .ok (.aload_n 0, 1) := dk_42 (dk_at dksX0_mustSell_0 7 rfl rfl)
theorem dX0_mustSell_8 : decode cX0_mustSell 8 = .ok (.getfield 10, 3) := dk_180 0 10 (dk_at dksX0_mustSell_0 8 rfl rfl)
theorem dX0_mustSell_11 : decode cX0_mustSell 11 = .ok (.iload_n 2, 1) := dk_28 (dk_at dksX0_mustSell_0 11 rfl rfl)
theorem dX0_mustSell_12 : decode cX0_mustSell 12 = .ok (.invokevirtual 72, 3) := dk_182 0 72 (dk_at dksX0_mustSell_0 12 rfl rfl)
theorem dX0_mustSell_15 : decode cX0_mustSell 15 = .ok (.ifCond .eq 19, 3) := dk_153 0 19 (dk_at dksX0_mustSell_0 15 rfl rfl)
theorem dX0_mustSell_18 : decode cX0_mustSell 18 = .ok (.iload_n 3, 1) := dk_29 (dk_at dksX0_mustSell_0 18 rfl rfl)
theorem dX0_mustSell_19 : decode cX0_mustSell 19 = .ok (.iconst (-1), 1) := dk_2 (dk_at dksX0_mustSell_0 19 rfl rfl)
theorem dX0_mustSell_20 : decode cX0_mustSell 20 = .ok (.if_icmp .eq 16, 3) := dk_159 0 16 (dk_at dksX0_mustSell_0 20 rfl rfl)
theorem dX0_mustSell_23 : decode cX0_mustSell 23 = .ok (.aload_n 0, 1) := dk_42 (dk_at dksX0_mustSell_0 23 rfl rfl)
theorem dX0_mustSell_24 : decode cX0_mustSell 24 = .ok (.getfield 10, 3) := dk_180 0 10 (dk_at dksX0_mustSell_1 0 rfl rfl)
theorem dX0_mustSell_27 : decode cX0_mustSell 27 = .ok (.iload_n 3, 1) := dk_29 (dk_at dksX0_mustSell_1 3 rfl rfl)
theorem dX0_mustSell_28 : decode cX0_mustSell 28 = .ok (.invokevirtual 82, 3) := dk_182 0 82 (dk_at dksX0_mustSell_1 4 rfl rfl)
theorem dX0_mustSell_31 : decode cX0_mustSell 31 = .ok (.ifCond .ne 5, 3) := dk_154 0 5 (dk_at dksX0_mustSell_1 7 rfl rfl)
theorem dX0_mustSell_34 : decode cX0_mustSell 34 = .ok (.iconst (-1), 1) := dk_2 (dk_at dksX0_mustSell_1 10 rfl rfl)
theorem dX0_mustSell_35 : decode cX0_mustSell 35 = .ok (.ireturn, 1) := dk_172 (dk_at dksX0_mustSell_1 11 rfl rfl)
theorem dX0_mustSell_36 : decode cX0_mustSell 36 = .ok (.aload_n 0, 1) := dk_42 (dk_at dksX0_mustSell_1 12 rfl rfl)
theorem dX0_mustSell_37 : decode cX0_mustSell 37 = .ok (.getfield 10, 3) := dk_180 0 10 (dk_at dksX0_mustSell_1 13 rfl rfl)
theorem dX0_mustSell_40 : decode cX0_mustSell 40 = .ok (.iload_n 1, 1) := dk_27 (dk_at dksX0_mustSell_1 16 rfl rfl)
theorem dX0_mustSell_41 : decode cX0_mustSell 41 = .ok (.invokevirtual 202, 3) := dk_182 0 202 (dk_at dksX0_mustSell_1 17 rfl rfl)
theorem dX0_mustSell_44 : decode cX0_mustSell 44 = .ok (.astore 4, 2) := dk_58 4 (dk_at dksX0_mustSell_1 20 rfl rfl)
theorem dX0_mustSell_46 : decode cX0_mustSell 46 = .ok (.iload_n 3, 1) := dk_29 (dk_at dksX0_mustSell_1 22 rfl rfl)
theorem dX0_mustSell_47 : decode cX0_mustSell 47 = .ok (.iconst (-1), 1) := dk_2 (dk_at dksX0_mustSell_1 23 rfl rfl)
theorem dX0_mustSell_48 : decode cX0_mustSell 48 = .ok (.if_icmp .ne 16, 3) := dk_160 0 16 (dk_at dksX0_mustSell_2 0 rfl rfl)
theorem dX0_mustSell_51 : decode cX0_mustSell 51 = .ok (.aload_n 0, 1) := dk_42 (dk_at dksX0_mustSell_2 3 rfl rfl)
theorem dX0_mustSell_52 : decode cX0_mustSell 52 = .ok (.getfield 10, 3) := dk_180 0 10 (dk_at dksX0_mustSell_2 4 rfl rfl)
theorem dX0_mustSell_55 : decode cX0_mustSell 55 = .ok (.aload 4, 2) := dk_25 4 (dk_at dksX0_mustSell_2 7 rfl rfl)
theorem dX0_mustSell_57 : decode cX0_mustSell 57 = .ok (.iload_n 2, 1) := dk_28 (dk_at dksX0_mustSell_2 9 rfl rfl)
theorem dX0_mustSell_58 : decode cX0_mustSell 58 = .ok (.invokevirtual 226, 3) := dk_182 0 226 (dk_at dksX0_mustSell_2 10 rfl rfl)
theorem dX0_mustSell_61 : decode cX0_mustSell 61 = .ok (.goto 15, 3) := dk_167 0 15 (dk_at dksX0_mustSell_2 13 rfl rfl)
theorem dX0_mustSell_64 : decode cX0_mustSell 64 = .ok (.aload_n 0, 1) := dk_42 (dk_at dksX0_mustSell_2 16 rfl rfl)
theorem dX0_mustSell_65 : decode cX0_mustSell 65 = .ok (.getfield 10, 3) := dk_180 0 10 (dk_at dksX0_mustSell_2 17 rfl rfl)
theorem dX0_mustSell_68 : decode cX0_mustSell 68 = .ok (.aload 4, 2) := dk_25 4 (dk_at dksX0_mustSell_2 20 rfl rfl)
theorem dX0_mustSell_70 : decode cX0_mustSell 70 = .ok (.iload_n 2, 1) := dk_28 (dk_at dksX0_mustSell_2 22 rfl rfl)
theorem dX0_mustSell_71 : decode cX0_mustSell 71 = .ok (.invokevirtual 229, 3) := dk_182 0 229 (dk_at dksX0_mustSell_3 0 rfl rfl)
theorem dX0_mustSell_74 : decode cX0_mustSell 74 = .ok (.iload_n 3, 1) := dk_29 (dk_at dksX0_mustSell_3 3 rfl rfl)
theorem dX0_mustSell_75 : decode cX0_mustSell 75 = .ok (.iaload, 1) := dk_46 (dk_at dksX0_mustSell_3 4 rfl rfl)
theorem dX0_mustSell_76 : decode cX0_mustSell 76 = .ok (.ireturn, 1) := dk_172 (dk_at dksX0_mustSell_3 5 rfl rfl)
def dkwX0_round_1 : List UInt8 := [42, 180, 0, 10, 42, 180, 0, 10, 27, 182, 0, 235, 28, 182, 0, 206, 167, 0, 4, 2, 172]
abbrev dktX0_round_1 : List UInt8 := dkwX0_round_1 ++ []
def dkwX0_round_0 : List UInt8 := [27, 133, 9, 20, 0, 233, 184, 0, 45, 153, 0, 34, 28, 133, 9, 20, 0, 200, 184, 0, 45, 153, 0, 22]
abbrev dktX0_round_0 : List UInt8 := dkwX0_round_0 ++ dktX0_round_1
theorem dksX0_round_0 : cX0_round.data.toList.drop 0 = dktX0_round_0 := by decide +kernel
theorem dksX0_round_1 : cX0_round.data.toList.drop 24 = dktX0_round_1 := dk_seg dksX0_round_0 24 rfl rfl
theorem dX0_round_0 : decode cX0_round 0 = .ok (.iload_n 1, 1) := dk_27 (dk_at dksX0_round_0 0 rfl rfl)
theorem dX0_round_1 : decode cX0_round 1 = .ok (.i2l, 1) := dk_133 (dk_at dksX0_round_0 1 rfl rfl)
theorem dX0_round_2 : decode cX0_round 2 = .ok (.lconst 0, 1) := dk_9 (dk_at dksX0_round_0 2 rfl rfl)
theorem dX0_round_3 : decode cX0_round 3 = .ok (.ldc2_w 233, 3) := dk_20 0 233 (dk_at dksX0_round_0 3 rfl rfl)
theorem dX0_round_6 : decode cX0_round 6 = .ok (.invokestatic 45, 3) := dk_184 0 45 (dk_at dksX0_round_0 6 rfl rfl)
theorem dX0_round_9 : decode cX0_round 9 = .ok (.ifCond .eq 34, 3) := dk_153 0 34 (dk_at dksX0_round_0 9 rfl rfl)
theorem dX0_round_12 : decode cX0_round 12 = .ok (.iload_n 2, 1) := dk_28 (dk_at dksX0_round_0 12 rfl rfl)
theorem dX0_round_13 : decode cX0_round 13 = .ok (.i2l, 1) := dk_133 (dk_at dksX0_round_0 13 rfl rfl)
theorem dX0_round_14 : decode cX0_round 14 = .ok (.lconst 0, 1) := dk_9 (dk_at dksX0_round_0 14 rfl rfl)
theorem dX0_round_15 : decode cX0_round 15 = .ok (.ldc2_w 200, 3) := dk_20 0 200 (dk_at dksX0_round_0 15 rfl rfl)
theorem dX0_round_18 : decode cX0_round 18 = .ok (.invokestatic 45, 3) := dk_184 0 45 (dk_at dksX0_round_0 18 rfl rfl)
theorem dX0_round_21 : decode cX0_round 21 = .ok (.ifCond .eq 22, 3) := dk_153 0 22 (dk_at dksX0_round_0 21 rfl rfl)
theorem dX0_round_24 : decode cX0_round 24 = .ok (.aload_n 0, 1) := dk_42 (dk_at dksX0_round_1 0 rfl rfl)
theorem dX0_round_25 : decode cX0_round 25 = .ok (.getfield 10, 3) := dk_180 0 10 (dk_at dksX0_round_1 1 rfl rfl)
theorem dX0_round_28 : decode cX0_round 28 = .ok (.aload_n 0, 1) := dk_42 (dk_at dksX0_round_1 4 rfl rfl)
theorem dX0_round_29 : decode cX0_round 29 = .ok (.getfield 10, 3) := dk_180 0 10 (dk_at dksX0_round_1 5 rfl rfl)
theorem dX0_round_32 : decode cX0_round 32 = .ok (.iload_n 1, 1) := dk_27 (dk_at dksX0_round_1 8 rfl rfl)
theorem dX0_round_33 : decode cX0_round 33 = .ok (.invokevirtual 235, 3) := dk_182 0 235 (dk_at dksX0_round_1 9 rfl rfl)
theorem dX0_round_36 : decode cX0_round 36 = .ok (.iload_n 2, 1) := dk_28 (dk_at dksX0_round_1 12 rfl rfl)
theorem dX0_round_37 : decode cX0_round 37 = .ok (.invokevirtual 206, 3) := dk_182 0 206 (dk_at dksX0_round_1 13 rfl rfl)
theorem dX0_round_40 : decode cX0_round 40 = .ok (.goto 4, 3) := dk_167 0 4 (dk_at dksX0_round_1 16 rfl rfl)
theorem dX0_round_43 : decode cX0_round 43 = .ok (.iconst (-1), 1) := dk_2 (dk_at dksX0_round_1 19 rfl rfl)
theorem dX0_round_44 : decode cX0_round 44 = .ok (.ireturn, 1) := dk_172 (dk_at dksX0_round_1 20 rfl rfl)
def dkwX0_worthIn_1 : List UInt8 := [180, 0, 10, 42, 180, 0, 10, 27, 182, 0, 235, 28, 182, 0, 222, 167, 0, 5, 18, 225, 172]
abbrev dktX0_worthIn_1 : List UInt8 := dkwX0_worthIn_1 ++ []
def dkwX0_worthIn_0 : List UInt8 := [27, 133, 9, 20, 0, 233, 184, 0, 45, 153, 0, 33, 42, 180, 0, 10, 28, 182, 0, 72, 153, 0, 22, 42]
abbrev dktX0_worthIn_0 : List UInt8 := dkwX0_worthIn_0 ++ dktX0_worthIn_1
theorem dksX0_worthIn_0 : cX0_worthIn.data.toList.drop 0 = dktX0_worthIn_0 := by decide +kernel
theorem dksX0_worthIn_1 : cX0_worthIn.data.toList.drop 24 = dktX0_worthIn_1 := dk_seg dksX0_worthIn_0 24 rfl rfl
theorem dX0_worthIn_0 : decode cX0_worthIn 0 = .ok (.iload_n 1, 1) := dk_27 (dk_at dksX0_worthIn_0 0 rfl rfl)
theorem dX0_worthIn_1 : decode cX0_worthIn 1 = .ok (.i2l, 1) := dk_133 (dk_at dksX0_worthIn_0 1 rfl rfl)
theorem dX0_worthIn_2 : decode cX0_worthIn 2 = .ok (.lconst 0, 1) := dk_9 (dk_at dksX0_worthIn_0 2 rfl rfl)
theorem dX0_worthIn_3 : decode cX0_worthIn 3 = .ok (.ldc2_w 233, 3) := dk_20 0 233 (dk_at dksX0_worthIn_0 3 rfl rfl)
theorem dX0_worthIn_6 : decode cX0_worthIn 6 = .ok (.invokestatic 45, 3) := dk_184 0 45 (dk_at dksX0_worthIn_0 6 rfl rfl)
theorem dX0_worthIn_9 : decode cX0_worthIn 9 = .ok (.ifCond .eq 33, 3) := dk_153 0 33 (dk_at dksX0_worthIn_0 9 rfl rfl)
theorem dX0_worthIn_12 : decode cX0_worthIn 12 = .ok (.aload_n 0, 1) := dk_42 (dk_at dksX0_worthIn_0 12 rfl rfl)
theorem dX0_worthIn_13 : decode cX0_worthIn 13 = .ok (.getfield 10, 3) := dk_180 0 10 (dk_at dksX0_worthIn_0 13 rfl rfl)
theorem dX0_worthIn_16 : decode cX0_worthIn 16 = .ok (.iload_n 2, 1) := dk_28 (dk_at dksX0_worthIn_0 16 rfl rfl)
theorem dX0_worthIn_17 : decode cX0_worthIn 17 = .ok (.invokevirtual 72, 3) := dk_182 0 72 (dk_at dksX0_worthIn_0 17 rfl rfl)
theorem dX0_worthIn_20 : decode cX0_worthIn 20 = .ok (.ifCond .eq 22, 3) := dk_153 0 22 (dk_at dksX0_worthIn_0 20 rfl rfl)
theorem dX0_worthIn_23 : decode cX0_worthIn 23 = .ok (.aload_n 0, 1) := dk_42 (dk_at dksX0_worthIn_0 23 rfl rfl)
theorem dX0_worthIn_24 : decode cX0_worthIn 24 = .ok (.getfield 10, 3) := dk_180 0 10 (dk_at dksX0_worthIn_1 0 rfl rfl)
theorem dX0_worthIn_27 : decode cX0_worthIn 27 = .ok (.aload_n 0, 1) := dk_42 (dk_at dksX0_worthIn_1 3 rfl rfl)
theorem dX0_worthIn_28 : decode cX0_worthIn 28 = .ok (.getfield 10, 3) := dk_180 0 10 (dk_at dksX0_worthIn_1 4 rfl rfl)
theorem dX0_worthIn_31 : decode cX0_worthIn 31 = .ok (.iload_n 1, 1) := dk_27 (dk_at dksX0_worthIn_1 7 rfl rfl)
theorem dX0_worthIn_32 : decode cX0_worthIn 32 = .ok (.invokevirtual 235, 3) := dk_182 0 235 (dk_at dksX0_worthIn_1 8 rfl rfl)
theorem dX0_worthIn_35 : decode cX0_worthIn 35 = .ok (.iload_n 2, 1) := dk_28 (dk_at dksX0_worthIn_1 11 rfl rfl)
theorem dX0_worthIn_36 : decode cX0_worthIn 36 = .ok (.invokevirtual 222, 3) := dk_182 0 222 (dk_at dksX0_worthIn_1 12 rfl rfl)
theorem dX0_worthIn_39 : decode cX0_worthIn 39 = .ok (.goto 5, 3) := dk_167 0 5 (dk_at dksX0_worthIn_1 15 rfl rfl)
theorem dX0_worthIn_42 : decode cX0_worthIn 42 = .ok (.ldc 225, 2) := dk_18 225 (dk_at dksX0_worthIn_1 18 rfl rfl)
theorem dX0_worthIn_44 : decode cX0_worthIn 44 = .ok (.ireturn, 1) := dk_172 (dk_at dksX0_worthIn_1 20 rfl rfl)
def dkwX0_sharpest_4 : List UInt8 := [163, 0, 6, 167, 0, 9, 21, 8, 61, 21, 7, 60, 132, 7, 1, 167, 255, 193, 27, 172]
abbrev dktX0_sharpest_4 : List UInt8 := dkwX0_sharpest_4 ++ []
def dkwX0_sharpest_3 : List UInt8 := [180, 0, 10, 25, 5, 182, 0, 246, 21, 4, 100, 54, 8, 21, 4, 21, 8, 96, 54, 4, 21, 8, 28]
abbrev dktX0_sharpest_3 : List UInt8 := dkwX0_sharpest_3 ++ dktX0_sharpest_4
def dkwX0_sharpest_2 : List UInt8 := [163, 0, 63, 42, 180, 0, 10, 25, 5, 25, 6, 182, 0, 238, 25, 5, 25, 6, 182, 0, 242, 42]
abbrev dktX0_sharpest_2 : List UInt8 := dkwX0_sharpest_2 ++ dktX0_sharpest_3
def dkwX0_sharpest_1 : List UInt8 := [180, 0, 10, 182, 0, 213, 58, 5, 42, 180, 0, 10, 182, 0, 213, 58, 6, 4, 54, 7, 21, 7, 29]
abbrev dktX0_sharpest_1 : List UInt8 := dkwX0_sharpest_1 ++ dktX0_sharpest_2
def dkwX0_sharpest_0 : List UInt8 := [16, 254, 60, 3, 61, 42, 180, 0, 10, 42, 180, 0, 10, 182, 0, 213, 182, 0, 216, 62, 3, 54, 4, 42]
abbrev dktX0_sharpest_0 : List UInt8 := dkwX0_sharpest_0 ++ dktX0_sharpest_1
theorem dksX0_sharpest_0 : cX0_sharpest.data.toList.drop 0 = dktX0_sharpest_0 := by decide +kernel
theorem dksX0_sharpest_1 : cX0_sharpest.data.toList.drop 24 = dktX0_sharpest_1 := dk_seg dksX0_sharpest_0 24 rfl rfl
theorem dksX0_sharpest_2 : cX0_sharpest.data.toList.drop 47 = dktX0_sharpest_2 := dk_seg dksX0_sharpest_1 23 rfl rfl
theorem dksX0_sharpest_3 : cX0_sharpest.data.toList.drop 69 = dktX0_sharpest_3 := dk_seg dksX0_sharpest_2 22 rfl rfl
theorem dksX0_sharpest_4 : cX0_sharpest.data.toList.drop 92 = dktX0_sharpest_4 := dk_seg dksX0_sharpest_3 23 rfl rfl
theorem dX0_sharpest_0 : decode cX0_sharpest 0 = .ok (.bipush (-2), 2) := dk_16 254 (dk_at dksX0_sharpest_0 0 rfl rfl)
theorem dX0_sharpest_2 : decode cX0_sharpest 2 = .ok (.istore_n 1, 1) := dk_60 (dk_at dksX0_sharpest_0 2 rfl rfl)
theorem dX0_sharpest_3 : decode cX0_sharpest 3 = .ok (.iconst 0, 1) := dk_3 (dk_at dksX0_sharpest_0 3 rfl rfl)
theorem dX0_sharpest_4 : decode cX0_sharpest 4 = .ok (.istore_n 2, 1) := dk_61 (dk_at dksX0_sharpest_0 4 rfl rfl)
theorem dX0_sharpest_5 : decode cX0_sharpest 5 = .ok (.aload_n 0, 1) := dk_42 (dk_at dksX0_sharpest_0 5 rfl rfl)
theorem dX0_sharpest_6 : decode cX0_sharpest 6 = .ok (.getfield 10, 3) := dk_180 0 10 (dk_at dksX0_sharpest_0 6 rfl rfl)
theorem dX0_sharpest_9 : decode cX0_sharpest 9 = .ok (.aload_n 0, 1) := dk_42 (dk_at dksX0_sharpest_0 9 rfl rfl)
theorem dX0_sharpest_10 : decode cX0_sharpest 10 = .ok (.getfield 10, 3) := dk_180 0 10 (dk_at dksX0_sharpest_0 10 rfl rfl)
theorem dX0_sharpest_13 : decode cX0_sharpest 13 = .ok (.invokevirtual 213, 3) := dk_182 0 213 (dk_at dksX0_sharpest_0 13 rfl rfl)
theorem dX0_sharpest_16 : decode cX0_sharpest 16 = .ok (.invokevirtual 216, 3) := dk_182 0 216 (dk_at dksX0_sharpest_0 16 rfl rfl)
theorem dX0_sharpest_19 : decode cX0_sharpest 19 = .ok (.istore_n 3, 1) := dk_62 (dk_at dksX0_sharpest_0 19 rfl rfl)
theorem dX0_sharpest_20 : decode cX0_sharpest 20 = .ok (.iconst 0, 1) := dk_3 (dk_at dksX0_sharpest_0 20 rfl rfl)
theorem dX0_sharpest_21 : decode cX0_sharpest 21 = .ok (.istore 4, 2) := dk_54 4 (dk_at dksX0_sharpest_0 21 rfl rfl)
theorem dX0_sharpest_23 : decode cX0_sharpest 23 = .ok (.aload_n 0, 1) := dk_42 (dk_at dksX0_sharpest_0 23 rfl rfl)
theorem dX0_sharpest_24 : decode cX0_sharpest 24 = .ok (.getfield 10, 3) := dk_180 0 10 (dk_at dksX0_sharpest_1 0 rfl rfl)
theorem dX0_sharpest_27 : decode cX0_sharpest 27 = .ok (.invokevirtual 213, 3) := dk_182 0 213 (dk_at dksX0_sharpest_1 3 rfl rfl)
theorem dX0_sharpest_30 : decode cX0_sharpest 30 = .ok (.astore 5, 2) := dk_58 5 (dk_at dksX0_sharpest_1 6 rfl rfl)
theorem dX0_sharpest_32 : decode cX0_sharpest 32 = .ok (.aload_n 0, 1) := dk_42 (dk_at dksX0_sharpest_1 8 rfl rfl)
theorem dX0_sharpest_33 : decode cX0_sharpest 33 = .ok (.getfield 10, 3) := dk_180 0 10 (dk_at dksX0_sharpest_1 9 rfl rfl)
theorem dX0_sharpest_36 : decode cX0_sharpest 36 = .ok (.invokevirtual 213, 3) := dk_182 0 213 (dk_at dksX0_sharpest_1 12 rfl rfl)
theorem dX0_sharpest_39 : decode cX0_sharpest 39 = .ok (.astore 6, 2) := dk_58 6 (dk_at dksX0_sharpest_1 15 rfl rfl)
theorem dX0_sharpest_41 : decode cX0_sharpest 41 = .ok (.iconst 1, 1) := dk_4 (dk_at dksX0_sharpest_1 17 rfl rfl)
theorem dX0_sharpest_42 : decode cX0_sharpest 42 = .ok (.istore 7, 2) := dk_54 7 (dk_at dksX0_sharpest_1 18 rfl rfl)
theorem dX0_sharpest_44 : decode cX0_sharpest 44 = .ok (.iload 7, 2) := dk_21 7 (dk_at dksX0_sharpest_1 20 rfl rfl)
theorem dX0_sharpest_46 : decode cX0_sharpest 46 = .ok (.iload_n 3, 1) := dk_29 (dk_at dksX0_sharpest_1 22 rfl rfl)
theorem dX0_sharpest_47 : decode cX0_sharpest 47 = .ok (.if_icmp .gt 63, 3) := dk_163 0 63 (dk_at dksX0_sharpest_2 0 rfl rfl)
theorem dX0_sharpest_50 : decode cX0_sharpest 50 = .ok (.aload_n 0, 1) := dk_42 (dk_at dksX0_sharpest_2 3 rfl rfl)
theorem dX0_sharpest_51 : decode cX0_sharpest 51 = .ok (.getfield 10, 3) := dk_180 0 10 (dk_at dksX0_sharpest_2 4 rfl rfl)
theorem dX0_sharpest_54 : decode cX0_sharpest 54 = .ok (.aload 5, 2) := dk_25 5 (dk_at dksX0_sharpest_2 7 rfl rfl)
theorem dX0_sharpest_56 : decode cX0_sharpest 56 = .ok (.aload 6, 2) := dk_25 6 (dk_at dksX0_sharpest_2 9 rfl rfl)
theorem dX0_sharpest_58 : decode cX0_sharpest 58 = .ok (.invokevirtual 238, 3) := dk_182 0 238 (dk_at dksX0_sharpest_2 11 rfl rfl)
theorem dX0_sharpest_61 : decode cX0_sharpest 61 = .ok (.aload 5, 2) := dk_25 5 (dk_at dksX0_sharpest_2 14 rfl rfl)
theorem dX0_sharpest_63 : decode cX0_sharpest 63 = .ok (.aload 6, 2) := dk_25 6 (dk_at dksX0_sharpest_2 16 rfl rfl)
theorem dX0_sharpest_65 : decode cX0_sharpest 65 = .ok (.invokevirtual 242, 3) := dk_182 0 242 (dk_at dksX0_sharpest_2 18 rfl rfl)
theorem dX0_sharpest_68 : decode cX0_sharpest 68 = .ok (.aload_n 0, 1) := dk_42 (dk_at dksX0_sharpest_2 21 rfl rfl)
theorem dX0_sharpest_69 : decode cX0_sharpest 69 = .ok (.getfield 10, 3) := dk_180 0 10 (dk_at dksX0_sharpest_3 0 rfl rfl)
theorem dX0_sharpest_72 : decode cX0_sharpest 72 = .ok (.aload 5, 2) := dk_25 5 (dk_at dksX0_sharpest_3 3 rfl rfl)
theorem dX0_sharpest_74 : decode cX0_sharpest 74 = .ok (.invokevirtual 246, 3) := dk_182 0 246 (dk_at dksX0_sharpest_3 5 rfl rfl)
theorem dX0_sharpest_77 : decode cX0_sharpest 77 = .ok (.iload 4, 2) := dk_21 4 (dk_at dksX0_sharpest_3 8 rfl rfl)
theorem dX0_sharpest_79 : decode cX0_sharpest 79 = .ok (.isub, 1) := dk_100 (dk_at dksX0_sharpest_3 10 rfl rfl)
theorem dX0_sharpest_80 : decode cX0_sharpest 80 = .ok (.istore 8, 2) := dk_54 8 (dk_at dksX0_sharpest_3 11 rfl rfl)
theorem dX0_sharpest_82 : decode cX0_sharpest 82 = .ok (.iload 4, 2) := dk_21 4 (dk_at dksX0_sharpest_3 13 rfl rfl)
theorem dX0_sharpest_84 : decode cX0_sharpest 84 = .ok (.iload 8, 2) := dk_21 8 (dk_at dksX0_sharpest_3 15 rfl rfl)
theorem dX0_sharpest_86 : decode cX0_sharpest 86 = .ok (.iadd, 1) := dk_96 (dk_at dksX0_sharpest_3 17 rfl rfl)
theorem dX0_sharpest_87 : decode cX0_sharpest 87 = .ok (.istore 4, 2) := dk_54 4 (dk_at dksX0_sharpest_3 18 rfl rfl)
theorem dX0_sharpest_89 : decode cX0_sharpest 89 = .ok (.iload 8, 2) := dk_21 8 (dk_at dksX0_sharpest_3 20 rfl rfl)
theorem dX0_sharpest_91 : decode cX0_sharpest 91 = .ok (.iload_n 2, 1) := dk_28 (dk_at dksX0_sharpest_3 22 rfl rfl)
theorem dX0_sharpest_92 : decode cX0_sharpest 92 = .ok (.if_icmp .gt 6, 3) := dk_163 0 6 (dk_at dksX0_sharpest_4 0 rfl rfl)
theorem dX0_sharpest_95 : decode cX0_sharpest 95 = .ok (.goto 9, 3) := dk_167 0 9 (dk_at dksX0_sharpest_4 3 rfl rfl)
theorem dX0_sharpest_98 : decode cX0_sharpest 98 = .ok (.iload 8, 2) := dk_21 8 (dk_at dksX0_sharpest_4 6 rfl rfl)
theorem dX0_sharpest_100 : decode cX0_sharpest 100 = .ok (.istore_n 2, 1) := dk_61 (dk_at dksX0_sharpest_4 8 rfl rfl)
theorem dX0_sharpest_101 : decode cX0_sharpest 101 = .ok (.iload 7, 2) := dk_21 7 (dk_at dksX0_sharpest_4 9 rfl rfl)
theorem dX0_sharpest_103 : decode cX0_sharpest 103 = .ok (.istore_n 1, 1) := dk_60 (dk_at dksX0_sharpest_4 11 rfl rfl)
theorem dX0_sharpest_104 : decode cX0_sharpest 104 = .ok (.iinc 7 1, 3) := dk_132 7 1 (dk_at dksX0_sharpest_4 12 rfl rfl)
theorem dX0_sharpest_107 : decode cX0_sharpest 107 = .ok (.goto (-63), 3) := dk_167 255 193 (dk_at dksX0_sharpest_4 15 rfl rfl)
theorem dX0_sharpest_110 : decode cX0_sharpest 110 = .ok (.iload_n 1, 1) := dk_27 (dk_at dksX0_sharpest_4 18 rfl rfl)
theorem dX0_sharpest_111 : decode cX0_sharpest 111 = .ok (.ireturn, 1) := dk_172 (dk_at dksX0_sharpest_4 19 rfl rfl)
def dkwX0_ranked_3 : List UInt8 := [132, 5, 1, 167, 255, 212, 21, 4, 27, 160, 0, 5, 29, 172, 132, 3, 1, 167, 255, 181, 2, 172]
abbrev dktX0_ranked_3 : List UInt8 := dkwX0_ranked_3 ++ []
def dkwX0_ranked_2 : List UInt8 := [161, 0, 19, 44, 21, 5, 46, 44, 29, 46, 160, 0, 12, 21, 5, 29, 162, 0, 6, 132, 4, 1]
abbrev dktX0_ranked_2 : List UInt8 := dkwX0_ranked_2 ++ dktX0_ranked_3
def dkwX0_ranked_1 : List UInt8 := [3, 54, 5, 21, 5, 42, 180, 0, 10, 180, 0, 64, 162, 0, 38, 44, 21, 5, 46, 44, 29, 46]
abbrev dktX0_ranked_1 : List UInt8 := dkwX0_ranked_1 ++ dktX0_ranked_2
def dkwX0_ranked_0 : List UInt8 := [42, 180, 0, 10, 182, 0, 249, 77, 3, 62, 29, 42, 180, 0, 10, 180, 0, 64, 162, 0, 70, 3, 54, 4]
abbrev dktX0_ranked_0 : List UInt8 := dkwX0_ranked_0 ++ dktX0_ranked_1
theorem dksX0_ranked_0 : cX0_ranked.data.toList.drop 0 = dktX0_ranked_0 := by decide +kernel
theorem dksX0_ranked_1 : cX0_ranked.data.toList.drop 24 = dktX0_ranked_1 := dk_seg dksX0_ranked_0 24 rfl rfl
theorem dksX0_ranked_2 : cX0_ranked.data.toList.drop 46 = dktX0_ranked_2 := dk_seg dksX0_ranked_1 22 rfl rfl
theorem dksX0_ranked_3 : cX0_ranked.data.toList.drop 68 = dktX0_ranked_3 := dk_seg dksX0_ranked_2 22 rfl rfl
theorem dX0_ranked_0 : decode cX0_ranked 0 = .ok (.aload_n 0, 1) := dk_42 (dk_at dksX0_ranked_0 0 rfl rfl)
theorem dX0_ranked_1 : decode cX0_ranked 1 = .ok (.getfield 10, 3) := dk_180 0 10 (dk_at dksX0_ranked_0 1 rfl rfl)
theorem dX0_ranked_4 : decode cX0_ranked 4 = .ok (.invokevirtual 249, 3) := dk_182 0 249 (dk_at dksX0_ranked_0 4 rfl rfl)
theorem dX0_ranked_7 : decode cX0_ranked 7 = .ok (.astore_n 2, 1) := dk_77 (dk_at dksX0_ranked_0 7 rfl rfl)
theorem dX0_ranked_8 : decode cX0_ranked 8 = .ok (.iconst 0, 1) := dk_3 (dk_at dksX0_ranked_0 8 rfl rfl)
theorem dX0_ranked_9 : decode cX0_ranked 9 = .ok (.istore_n 3, 1) := dk_62 (dk_at dksX0_ranked_0 9 rfl rfl)
theorem dX0_ranked_10 : decode cX0_ranked 10 = .ok (.iload_n 3, 1) := dk_29 (dk_at dksX0_ranked_0 10 rfl rfl)
theorem dX0_ranked_11 : decode cX0_ranked 11 = .ok (.aload_n 0, 1) := dk_42 (dk_at dksX0_ranked_0 11 rfl rfl)
theorem dX0_ranked_12 : decode cX0_ranked 12 = .ok (.getfield 10, 3) := dk_180 0 10 (dk_at dksX0_ranked_0 12 rfl rfl)
theorem dX0_ranked_15 : decode cX0_ranked 15 = .ok (.getfield 64, 3) := dk_180 0 64 (dk_at dksX0_ranked_0 15 rfl rfl)
theorem dX0_ranked_18 : decode cX0_ranked 18 = .ok (.if_icmp .ge 70, 3) := dk_162 0 70 (dk_at dksX0_ranked_0 18 rfl rfl)
theorem dX0_ranked_21 : decode cX0_ranked 21 = .ok (.iconst 0, 1) := dk_3 (dk_at dksX0_ranked_0 21 rfl rfl)
theorem dX0_ranked_22 : decode cX0_ranked 22 = .ok (.istore 4, 2) := dk_54 4 (dk_at dksX0_ranked_0 22 rfl rfl)
theorem dX0_ranked_24 : decode cX0_ranked 24 = .ok (.iconst 0, 1) := dk_3 (dk_at dksX0_ranked_1 0 rfl rfl)
theorem dX0_ranked_25 : decode cX0_ranked 25 = .ok (.istore 5, 2) := dk_54 5 (dk_at dksX0_ranked_1 1 rfl rfl)
theorem dX0_ranked_27 : decode cX0_ranked 27 = .ok (.iload 5, 2) := dk_21 5 (dk_at dksX0_ranked_1 3 rfl rfl)
theorem dX0_ranked_29 : decode cX0_ranked 29 = .ok (.aload_n 0, 1) := dk_42 (dk_at dksX0_ranked_1 5 rfl rfl)
theorem dX0_ranked_30 : decode cX0_ranked 30 = .ok (.getfield 10, 3) := dk_180 0 10 (dk_at dksX0_ranked_1 6 rfl rfl)
theorem dX0_ranked_33 : decode cX0_ranked 33 = .ok (.getfield 64, 3) := dk_180 0 64 (dk_at dksX0_ranked_1 9 rfl rfl)
theorem dX0_ranked_36 : decode cX0_ranked 36 = .ok (.if_icmp .ge 38, 3) := dk_162 0 38 (dk_at dksX0_ranked_1 12 rfl rfl)
theorem dX0_ranked_39 : decode cX0_ranked 39 = .ok (.aload_n 2, 1) := dk_44 (dk_at dksX0_ranked_1 15 rfl rfl)
theorem dX0_ranked_40 : decode cX0_ranked 40 = .ok (.iload 5, 2) := dk_21 5 (dk_at dksX0_ranked_1 16 rfl rfl)
theorem dX0_ranked_42 : decode cX0_ranked 42 = .ok (.iaload, 1) := dk_46 (dk_at dksX0_ranked_1 18 rfl rfl)
theorem dX0_ranked_43 : decode cX0_ranked 43 = .ok (.aload_n 2, 1) := dk_44 (dk_at dksX0_ranked_1 19 rfl rfl)
theorem dX0_ranked_44 : decode cX0_ranked 44 = .ok (.iload_n 3, 1) := dk_29 (dk_at dksX0_ranked_1 20 rfl rfl)
theorem dX0_ranked_45 : decode cX0_ranked 45 = .ok (.iaload, 1) := dk_46 (dk_at dksX0_ranked_1 21 rfl rfl)
theorem dX0_ranked_46 : decode cX0_ranked 46 = .ok (.if_icmp .lt 19, 3) := dk_161 0 19 (dk_at dksX0_ranked_2 0 rfl rfl)
theorem dX0_ranked_49 : decode cX0_ranked 49 = .ok (.aload_n 2, 1) := dk_44 (dk_at dksX0_ranked_2 3 rfl rfl)
theorem dX0_ranked_50 : decode cX0_ranked 50 = .ok (.iload 5, 2) := dk_21 5 (dk_at dksX0_ranked_2 4 rfl rfl)
theorem dX0_ranked_52 : decode cX0_ranked 52 = .ok (.iaload, 1) := dk_46 (dk_at dksX0_ranked_2 6 rfl rfl)
theorem dX0_ranked_53 : decode cX0_ranked 53 = .ok (.aload_n 2, 1) := dk_44 (dk_at dksX0_ranked_2 7 rfl rfl)
theorem dX0_ranked_54 : decode cX0_ranked 54 = .ok (.iload_n 3, 1) := dk_29 (dk_at dksX0_ranked_2 8 rfl rfl)
theorem dX0_ranked_55 : decode cX0_ranked 55 = .ok (.iaload, 1) := dk_46 (dk_at dksX0_ranked_2 9 rfl rfl)
theorem dX0_ranked_56 : decode cX0_ranked 56 = .ok (.if_icmp .ne 12, 3) := dk_160 0 12 (dk_at dksX0_ranked_2 10 rfl rfl)
theorem dX0_ranked_59 : decode cX0_ranked 59 = .ok (.iload 5, 2) := dk_21 5 (dk_at dksX0_ranked_2 13 rfl rfl)
theorem dX0_ranked_61 : decode cX0_ranked 61 = .ok (.iload_n 3, 1) := dk_29 (dk_at dksX0_ranked_2 15 rfl rfl)
theorem dX0_ranked_62 : decode cX0_ranked 62 = .ok (.if_icmp .ge 6, 3) := dk_162 0 6 (dk_at dksX0_ranked_2 16 rfl rfl)
theorem dX0_ranked_65 : decode cX0_ranked 65 = .ok (.iinc 4 1, 3) := dk_132 4 1 (dk_at dksX0_ranked_2 19 rfl rfl)
theorem dX0_ranked_68 : decode cX0_ranked 68 = .ok (.iinc 5 1, 3) := dk_132 5 1 (dk_at dksX0_ranked_3 0 rfl rfl)
theorem dX0_ranked_71 : decode cX0_ranked 71 = .ok (.goto (-44), 3) := dk_167 255 212 (dk_at dksX0_ranked_3 3 rfl rfl)
theorem dX0_ranked_74 : decode cX0_ranked 74 = .ok (.iload 4, 2) := dk_21 4 (dk_at dksX0_ranked_3 6 rfl rfl)
theorem dX0_ranked_76 : decode cX0_ranked 76 = .ok (.iload_n 1, 1) := dk_27 (dk_at dksX0_ranked_3 8 rfl rfl)
theorem dX0_ranked_77 : decode cX0_ranked 77 = .ok (.if_icmp .ne 5, 3) := dk_160 0 5 (dk_at dksX0_ranked_3 9 rfl rfl)
theorem dX0_ranked_80 : decode cX0_ranked 80 = .ok (.iload_n 3, 1) := dk_29 (dk_at dksX0_ranked_3 12 rfl rfl)
theorem dX0_ranked_81 : decode cX0_ranked 81 = .ok (.ireturn, 1) := dk_172 (dk_at dksX0_ranked_3 13 rfl rfl)
theorem dX0_ranked_82 : decode cX0_ranked 82 = .ok (.iinc 3 1, 3) := dk_132 3 1 (dk_at dksX0_ranked_3 14 rfl rfl)
theorem dX0_ranked_85 : decode cX0_ranked 85 = .ok (.goto (-75), 3) := dk_167 255 181 (dk_at dksX0_ranked_3 17 rfl rfl)
theorem dX0_ranked_88 : decode cX0_ranked 88 = .ok (.iconst (-1), 1) := dk_2 (dk_at dksX0_ranked_3 20 rfl rfl)
theorem dX0_ranked_89 : decode cX0_ranked 89 = .ok (.ireturn, 1) := dk_172 (dk_at dksX0_ranked_3 21 rfl rfl)
def dkwX0_fellIn_1 : List UInt8 := [17, 7, 208, 160, 0, 8, 16, 254, 167, 0, 4, 28, 172]
abbrev dktX0_fellIn_1 : List UInt8 := dkwX0_fellIn_1 ++ []
def dkwX0_fellIn_0 : List UInt8 := [42, 180, 0, 10, 27, 182, 0, 72, 154, 0, 5, 2, 172, 42, 180, 0, 10, 182, 0, 249, 27, 46, 61, 28]
abbrev dktX0_fellIn_0 : List UInt8 := dkwX0_fellIn_0 ++ dktX0_fellIn_1
theorem dksX0_fellIn_0 : cX0_fellIn.data.toList.drop 0 = dktX0_fellIn_0 := by decide +kernel
theorem dksX0_fellIn_1 : cX0_fellIn.data.toList.drop 24 = dktX0_fellIn_1 := dk_seg dksX0_fellIn_0 24 rfl rfl
theorem dX0_fellIn_0 : decode cX0_fellIn 0 = .ok (.aload_n 0, 1) := dk_42 (dk_at dksX0_fellIn_0 0 rfl rfl)
theorem dX0_fellIn_1 : decode cX0_fellIn 1 = .ok (.getfield 10, 3) := dk_180 0 10 (dk_at dksX0_fellIn_0 1 rfl rfl)
theorem dX0_fellIn_4 : decode cX0_fellIn 4 = .ok (.iload_n 1, 1) := dk_27 (dk_at dksX0_fellIn_0 4 rfl rfl)
theorem dX0_fellIn_5 : decode cX0_fellIn 5 = .ok (.invokevirtual 72, 3) := dk_182 0 72 (dk_at dksX0_fellIn_0 5 rfl rfl)
theorem dX0_fellIn_8 : decode cX0_fellIn 8 = .ok (.ifCond .ne 5, 3) := dk_154 0 5 (dk_at dksX0_fellIn_0 8 rfl rfl)
theorem dX0_fellIn_11 : decode cX0_fellIn 11 = .ok (.iconst (-1), 1) := dk_2 (dk_at dksX0_fellIn_0 11 rfl rfl)
theorem dX0_fellIn_12 : decode cX0_fellIn 12 = .ok (.ireturn, 1) := dk_172 (dk_at dksX0_fellIn_0 12 rfl rfl)
theorem dX0_fellIn_13 : decode cX0_fellIn 13 = .ok (.aload_n 0, 1) := dk_42 (dk_at dksX0_fellIn_0 13 rfl rfl)
theorem dX0_fellIn_14 : decode cX0_fellIn 14 = .ok (.getfield 10, 3) := dk_180 0 10 (dk_at dksX0_fellIn_0 14 rfl rfl)
theorem dX0_fellIn_17 : decode cX0_fellIn 17 = .ok (.invokevirtual 249, 3) := dk_182 0 249 (dk_at dksX0_fellIn_0 17 rfl rfl)
theorem dX0_fellIn_20 : decode cX0_fellIn 20 = .ok (.iload_n 1, 1) := dk_27 (dk_at dksX0_fellIn_0 20 rfl rfl)
theorem dX0_fellIn_21 : decode cX0_fellIn 21 = .ok (.iaload, 1) := dk_46 (dk_at dksX0_fellIn_0 21 rfl rfl)
theorem dX0_fellIn_22 : decode cX0_fellIn 22 = .ok (.istore_n 2, 1) := dk_61 (dk_at dksX0_fellIn_0 22 rfl rfl)
theorem dX0_fellIn_23 : decode cX0_fellIn 23 = .ok (.iload_n 2, 1) := dk_28 (dk_at dksX0_fellIn_0 23 rfl rfl)
theorem dX0_fellIn_24 : decode cX0_fellIn 24 = .ok (.sipush 2000, 3) := dk_17 7 208 (dk_at dksX0_fellIn_1 0 rfl rfl)
theorem dX0_fellIn_27 : decode cX0_fellIn 27 = .ok (.if_icmp .ne 8, 3) := dk_160 0 8 (dk_at dksX0_fellIn_1 3 rfl rfl)
theorem dX0_fellIn_30 : decode cX0_fellIn 30 = .ok (.bipush (-2), 2) := dk_16 254 (dk_at dksX0_fellIn_1 6 rfl rfl)
theorem dX0_fellIn_32 : decode cX0_fellIn 32 = .ok (.goto 4, 3) := dk_167 0 4 (dk_at dksX0_fellIn_1 8 rfl rfl)
theorem dX0_fellIn_35 : decode cX0_fellIn 35 = .ok (.iload_n 2, 1) := dk_28 (dk_at dksX0_fellIn_1 11 rfl rfl)
theorem dX0_fellIn_36 : decode cX0_fellIn 36 = .ok (.ireturn, 1) := dk_172 (dk_at dksX0_fellIn_1 12 rfl rfl)
def dkwX0_next_3 : List UInt8 := [172]
abbrev dktX0_next_3 : List UInt8 := dkwX0_next_3 ++ []
def dkwX0_next_2 : List UInt8 := [16, 254, 167, 0, 22, 42, 180, 0, 10, 42, 180, 0, 10, 25, 5, 4, 182, 1, 6, 21, 4, 182, 0, 206]
abbrev dktX0_next_2 : List UInt8 := dkwX0_next_2 ++ dktX0_next_3
def dkwX0_next_1 : List UInt8 := [21, 4, 182, 0, 82, 154, 0, 5, 2, 172, 42, 27, 28, 29, 182, 1, 2, 58, 5, 25, 5, 199, 0, 8]
abbrev dktX0_next_1 : List UInt8 := dkwX0_next_1 ++ dktX0_next_2
def dkwX0_next_0 : List UInt8 := [21, 4, 133, 9, 20, 0, 200, 184, 0, 45, 153, 0, 21, 21, 4, 7, 162, 0, 17, 42, 180, 0, 10]
abbrev dktX0_next_0 : List UInt8 := dkwX0_next_0 ++ dktX0_next_1
theorem dksX0_next_0 : cX0_next.data.toList.drop 0 = dktX0_next_0 := by decide +kernel
theorem dksX0_next_1 : cX0_next.data.toList.drop 23 = dktX0_next_1 := dk_seg dksX0_next_0 23 rfl rfl
theorem dksX0_next_2 : cX0_next.data.toList.drop 47 = dktX0_next_2 := dk_seg dksX0_next_1 24 rfl rfl
theorem dksX0_next_3 : cX0_next.data.toList.drop 71 = dktX0_next_3 := dk_seg dksX0_next_2 24 rfl rfl
theorem dX0_next_0 : decode cX0_next 0 = .ok (.iload 4, 2) := dk_21 4 (dk_at dksX0_next_0 0 rfl rfl)
theorem dX0_next_2 : decode cX0_next 2 = .ok (.i2l, 1) := dk_133 (dk_at dksX0_next_0 2 rfl rfl)
theorem dX0_next_3 : decode cX0_next 3 = .ok (.lconst 0, 1) := dk_9 (dk_at dksX0_next_0 3 rfl rfl)
theorem dX0_next_4 : decode cX0_next 4 = .ok (.ldc2_w 200, 3) := dk_20 0 200 (dk_at dksX0_next_0 4 rfl rfl)
theorem dX0_next_7 : decode cX0_next 7 = .ok (.invokestatic 45, 3) := dk_184 0 45 (dk_at dksX0_next_0 7 rfl rfl)
theorem dX0_next_10 : decode cX0_next 10 = .ok (.ifCond .eq 21, 3) := dk_153 0 21 (dk_at dksX0_next_0 10 rfl rfl)
theorem dX0_next_13 : decode cX0_next 13 = .ok (.iload 4, 2) := dk_21 4 (dk_at dksX0_next_0 13 rfl rfl)
theorem dX0_next_15 : decode cX0_next 15 = .ok (.iconst 4, 1) := dk_7 (dk_at dksX0_next_0 15 rfl rfl)
theorem dX0_next_16 : decode cX0_next 16 = .ok (.if_icmp .ge 17, 3) := dk_162 0 17 (dk_at dksX0_next_0 16 rfl rfl)
theorem dX0_next_19 : decode cX0_next 19 = .ok (.aload_n 0, 1) := dk_42 (dk_at dksX0_next_0 19 rfl rfl)
theorem dX0_next_20 : decode cX0_next 20 = .ok (.getfield 10, 3) := dk_180 0 10 (dk_at dksX0_next_0 20 rfl rfl)
theorem dX0_next_23 : decode cX0_next 23 = .ok (.iload 4, 2) := dk_21 4 (dk_at dksX0_next_1 0 rfl rfl)
theorem dX0_next_25 : decode cX0_next 25 = .ok (.invokevirtual 82, 3) := dk_182 0 82 (dk_at dksX0_next_1 2 rfl rfl)
theorem dX0_next_28 : decode cX0_next 28 = .ok (.ifCond .ne 5, 3) := dk_154 0 5 (dk_at dksX0_next_1 5 rfl rfl)
theorem dX0_next_31 : decode cX0_next 31 = .ok (.iconst (-1), 1) := dk_2 (dk_at dksX0_next_1 8 rfl rfl)
theorem dX0_next_32 : decode cX0_next 32 = .ok (.ireturn, 1) := dk_172 (dk_at dksX0_next_1 9 rfl rfl)
theorem dX0_next_33 : decode cX0_next 33 = .ok (.aload_n 0, 1) := dk_42 (dk_at dksX0_next_1 10 rfl rfl)
theorem dX0_next_34 : decode cX0_next 34 = .ok (.iload_n 1, 1) := dk_27 (dk_at dksX0_next_1 11 rfl rfl)
theorem dX0_next_35 : decode cX0_next 35 = .ok (.iload_n 2, 1) := dk_28 (dk_at dksX0_next_1 12 rfl rfl)
theorem dX0_next_36 : decode cX0_next 36 = .ok (.iload_n 3, 1) := dk_29 (dk_at dksX0_next_1 13 rfl rfl)
theorem dX0_next_37 : decode cX0_next 37 = .ok (.invokevirtual 258, 3) := dk_182 1 2 (dk_at dksX0_next_1 14 rfl rfl)
theorem dX0_next_40 : decode cX0_next 40 = .ok (.astore 5, 2) := dk_58 5 (dk_at dksX0_next_1 17 rfl rfl)
theorem dX0_next_42 : decode cX0_next 42 = .ok (.aload 5, 2) := dk_25 5 (dk_at dksX0_next_1 19 rfl rfl)
theorem dX0_next_44 : decode cX0_next 44 = .ok (.ifnonnull 8, 3) := dk_199 0 8 (dk_at dksX0_next_1 21 rfl rfl)
theorem dX0_next_47 : decode cX0_next 47 = .ok (.bipush (-2), 2) := dk_16 254 (dk_at dksX0_next_2 0 rfl rfl)
theorem dX0_next_49 : decode cX0_next 49 = .ok (.goto 22, 3) := dk_167 0 22 (dk_at dksX0_next_2 2 rfl rfl)
theorem dX0_next_52 : decode cX0_next 52 = .ok (.aload_n 0, 1) := dk_42 (dk_at dksX0_next_2 5 rfl rfl)
theorem dX0_next_53 : decode cX0_next 53 = .ok (.getfield 10, 3) := dk_180 0 10 (dk_at dksX0_next_2 6 rfl rfl)
theorem dX0_next_56 : decode cX0_next 56 = .ok (.aload_n 0, 1) := dk_42 (dk_at dksX0_next_2 9 rfl rfl)
theorem dX0_next_57 : decode cX0_next 57 = .ok (.getfield 10, 3) := dk_180 0 10 (dk_at dksX0_next_2 10 rfl rfl)
theorem dX0_next_60 : decode cX0_next 60 = .ok (.aload 5, 2) := dk_25 5 (dk_at dksX0_next_2 13 rfl rfl)
theorem dX0_next_62 : decode cX0_next 62 = .ok (.iconst 1, 1) := dk_4 (dk_at dksX0_next_2 15 rfl rfl)
theorem dX0_next_63 : decode cX0_next 63 = .ok (.invokevirtual 262, 3) := dk_182 1 6 (dk_at dksX0_next_2 16 rfl rfl)
theorem dX0_next_66 : decode cX0_next 66 = .ok (.iload 4, 2) := dk_21 4 (dk_at dksX0_next_2 19 rfl rfl)
theorem dX0_next_68 : decode cX0_next 68 = .ok (.invokevirtual 206, 3) := dk_182 0 206 (dk_at dksX0_next_2 21 rfl rfl)
theorem dX0_next_71 : decode cX0_next 71 = .ok (.ireturn, 1) := dk_172 (dk_at dksX0_next_3 0 rfl rfl)
def dkwX0_told_6 : List UInt8 := [181, 0, 145, 25, 4, 176]
abbrev dktX0_told_6 : List UInt8 := dkwX0_told_6 ++ []
def dkwX0_told_5 : List UInt8 := [21, 5, 182, 0, 171, 167, 0, 4, 3, 164, 0, 5, 1, 176, 132, 5, 1, 167, 255, 166, 25, 4, 29]
abbrev dktX0_told_5 : List UInt8 := dkwX0_told_5 ++ dktX0_told_6
def dkwX0_told_4 : List UInt8 := [25, 4, 180, 0, 254, 21, 5, 46, 42, 180, 0, 10, 21, 5, 182, 0, 82, 153, 0, 15, 42, 180, 0, 10]
abbrev dktX0_told_4 : List UInt8 := dkwX0_told_4 ++ dktX0_told_5
def dkwX0_told_3 : List UInt8 := [21, 5, 5, 112, 154, 0, 12, 21, 6, 17, 3, 232, 108, 167, 0, 9, 21, 6, 17, 3, 232, 112, 79]
abbrev dktX0_told_3 : List UInt8 := dkwX0_told_3 ++ dktX0_told_4
def dkwX0_told_2 : List UInt8 := [162, 0, 90, 21, 5, 5, 162, 0, 7, 27, 167, 0, 4, 28, 54, 6, 25, 4, 180, 0, 254, 21, 5]
abbrev dktX0_told_2 : List UInt8 := dkwX0_told_2 ++ dktX0_told_3
def dkwX0_told_1 : List UInt8 := [184, 0, 45, 154, 0, 5, 1, 176, 187, 0, 146, 89, 183, 0, 253, 58, 4, 3, 54, 5, 21, 5, 7]
abbrev dktX0_told_1 : List UInt8 := dkwX0_told_1 ++ dktX0_told_2
def dkwX0_told_0 : List UInt8 := [27, 155, 0, 28, 28, 155, 0, 24, 29, 133, 9, 4, 42, 180, 0, 10, 180, 0, 64, 120, 4, 100, 133]
abbrev dktX0_told_0 : List UInt8 := dkwX0_told_0 ++ dktX0_told_1
theorem dksX0_told_0 : cX0_told.data.toList.drop 0 = dktX0_told_0 := by decide +kernel
theorem dksX0_told_1 : cX0_told.data.toList.drop 23 = dktX0_told_1 := dk_seg dksX0_told_0 23 rfl rfl
theorem dksX0_told_2 : cX0_told.data.toList.drop 46 = dktX0_told_2 := dk_seg dksX0_told_1 23 rfl rfl
theorem dksX0_told_3 : cX0_told.data.toList.drop 69 = dktX0_told_3 := dk_seg dksX0_told_2 23 rfl rfl
theorem dksX0_told_4 : cX0_told.data.toList.drop 92 = dktX0_told_4 := dk_seg dksX0_told_3 23 rfl rfl
theorem dksX0_told_5 : cX0_told.data.toList.drop 116 = dktX0_told_5 := dk_seg dksX0_told_4 24 rfl rfl
theorem dksX0_told_6 : cX0_told.data.toList.drop 139 = dktX0_told_6 := dk_seg dksX0_told_5 23 rfl rfl
theorem dX0_told_0 : decode cX0_told 0 = .ok (.iload_n 1, 1) := dk_27 (dk_at dksX0_told_0 0 rfl rfl)
theorem dX0_told_1 : decode cX0_told 1 = .ok (.ifCond .lt 28, 3) := dk_155 0 28 (dk_at dksX0_told_0 1 rfl rfl)
theorem dX0_told_4 : decode cX0_told 4 = .ok (.iload_n 2, 1) := dk_28 (dk_at dksX0_told_0 4 rfl rfl)
theorem dX0_told_5 : decode cX0_told 5 = .ok (.ifCond .lt 24, 3) := dk_155 0 24 (dk_at dksX0_told_0 5 rfl rfl)
theorem dX0_told_8 : decode cX0_told 8 = .ok (.iload_n 3, 1) := dk_29 (dk_at dksX0_told_0 8 rfl rfl)
theorem dX0_told_9 : decode cX0_told 9 = .ok (.i2l, 1) := dk_133 (dk_at dksX0_told_0 9 rfl rfl)
theorem dX0_told_10 : decode cX0_told 10 = .ok (.lconst 0, 1) := dk_9 (dk_at dksX0_told_0 10 rfl rfl)
theorem dX0_told_11 : decode cX0_told 11 = .ok (.iconst 1, 1) := dk_4 (dk_at dksX0_told_0 11 rfl rfl)
theorem dX0_told_12 : decode cX0_told 12 = .ok (.aload_n 0, 1) := dk_42 (dk_at dksX0_told_0 12 rfl rfl)
theorem dX0_told_13 : decode cX0_told 13 = .ok (.getfield 10, 3) := dk_180 0 10 (dk_at dksX0_told_0 13 rfl rfl)
theorem dX0_told_16 : decode cX0_told 16 = .ok (.getfield 64, 3) := dk_180 0 64 (dk_at dksX0_told_0 16 rfl rfl)
theorem dX0_told_19 : decode cX0_told 19 = .ok (.ishl, 1) := dk_120 (dk_at dksX0_told_0 19 rfl rfl)
theorem dX0_told_20 : decode cX0_told 20 = .ok (.iconst 1, 1) := dk_4 (dk_at dksX0_told_0 20 rfl rfl)
theorem dX0_told_21 : decode cX0_told 21 = .ok (.isub, 1) := dk_100 (dk_at dksX0_told_0 21 rfl rfl)
theorem dX0_told_22 : decode cX0_told 22 = .ok (.i2l, 1) := dk_133 (dk_at dksX0_told_0 22 rfl rfl)
theorem dX0_told_23 : decode cX0_told 23 = .ok (.invokestatic 45, 3) := dk_184 0 45 (dk_at dksX0_told_1 0 rfl rfl)
theorem dX0_told_26 : decode cX0_told 26 = .ok (.ifCond .ne 5, 3) := dk_154 0 5 (dk_at dksX0_told_1 3 rfl rfl)
theorem dX0_told_29 : decode cX0_told 29 = .ok (.aconst_null, 1) := dk_1 (dk_at dksX0_told_1 6 rfl rfl)
theorem dX0_told_30 : decode cX0_told 30 = .ok (.areturn, 1) := dk_176 (dk_at dksX0_told_1 7 rfl rfl)
theorem dX0_told_31 : decode cX0_told 31 = .ok (.new 146, 3) := dk_187 0 146 (dk_at dksX0_told_1 8 rfl rfl)
theorem dX0_told_34 : decode cX0_told 34 = .ok (.dup, 1) := dk_89 (dk_at dksX0_told_1 11 rfl rfl)
theorem dX0_told_35 : decode cX0_told 35 = .ok (.invokespecial 253, 3) := dk_183 0 253 (dk_at dksX0_told_1 12 rfl rfl)
theorem dX0_told_38 : decode cX0_told 38 = .ok (.astore 4, 2) := dk_58 4 (dk_at dksX0_told_1 15 rfl rfl)
theorem dX0_told_40 : decode cX0_told 40 = .ok (.iconst 0, 1) := dk_3 (dk_at dksX0_told_1 17 rfl rfl)
theorem dX0_told_41 : decode cX0_told 41 = .ok (.istore 5, 2) := dk_54 5 (dk_at dksX0_told_1 18 rfl rfl)
theorem dX0_told_43 : decode cX0_told 43 = .ok (.iload 5, 2) := dk_21 5 (dk_at dksX0_told_1 20 rfl rfl)
theorem dX0_told_45 : decode cX0_told 45 = .ok (.iconst 4, 1) := dk_7 (dk_at dksX0_told_1 22 rfl rfl)
theorem dX0_told_46 : decode cX0_told 46 = .ok (.if_icmp .ge 90, 3) := dk_162 0 90 (dk_at dksX0_told_2 0 rfl rfl)
theorem dX0_told_49 : decode cX0_told 49 = .ok (.iload 5, 2) := dk_21 5 (dk_at dksX0_told_2 3 rfl rfl)
theorem dX0_told_51 : decode cX0_told 51 = .ok (.iconst 2, 1) := dk_5 (dk_at dksX0_told_2 5 rfl rfl)
theorem dX0_told_52 : decode cX0_told 52 = .ok (.if_icmp .ge 7, 3) := dk_162 0 7 (dk_at dksX0_told_2 6 rfl rfl)
theorem dX0_told_55 : decode cX0_told 55 = .ok (.iload_n 1, 1) := dk_27 (dk_at dksX0_told_2 9 rfl rfl)
theorem dX0_told_56 : decode cX0_told 56 = .ok (.goto 4, 3) := dk_167 0 4 (dk_at dksX0_told_2 10 rfl rfl)
theorem dX0_told_59 : decode cX0_told 59 = .ok (.iload_n 2, 1) := dk_28 (dk_at dksX0_told_2 13 rfl rfl)
theorem dX0_told_60 : decode cX0_told 60 = .ok (.istore 6, 2) := dk_54 6 (dk_at dksX0_told_2 14 rfl rfl)
theorem dX0_told_62 : decode cX0_told 62 = .ok (.aload 4, 2) := dk_25 4 (dk_at dksX0_told_2 16 rfl rfl)
theorem dX0_told_64 : decode cX0_told 64 = .ok (.getfield 254, 3) := dk_180 0 254 (dk_at dksX0_told_2 18 rfl rfl)
theorem dX0_told_67 : decode cX0_told 67 = .ok (.iload 5, 2) := dk_21 5 (dk_at dksX0_told_2 21 rfl rfl)
theorem dX0_told_69 : decode cX0_told 69 = .ok (.iload 5, 2) := dk_21 5 (dk_at dksX0_told_3 0 rfl rfl)
theorem dX0_told_71 : decode cX0_told 71 = .ok (.iconst 2, 1) := dk_5 (dk_at dksX0_told_3 2 rfl rfl)
theorem dX0_told_72 : decode cX0_told 72 = .ok (.irem, 1) := dk_112 (dk_at dksX0_told_3 3 rfl rfl)
theorem dX0_told_73 : decode cX0_told 73 = .ok (.ifCond .ne 12, 3) := dk_154 0 12 (dk_at dksX0_told_3 4 rfl rfl)
theorem dX0_told_76 : decode cX0_told 76 = .ok (.iload 6, 2) := dk_21 6 (dk_at dksX0_told_3 7 rfl rfl)
theorem dX0_told_78 : decode cX0_told 78 = .ok (.sipush 1000, 3) := dk_17 3 232 (dk_at dksX0_told_3 9 rfl rfl)
theorem dX0_told_81 : decode cX0_told 81 = .ok (.idiv, 1) := dk_108 (dk_at dksX0_told_3 12 rfl rfl)
theorem dX0_told_82 : decode cX0_told 82 = .ok (.goto 9, 3) := dk_167 0 9 (dk_at dksX0_told_3 13 rfl rfl)
theorem dX0_told_85 : decode cX0_told 85 = .ok (.iload 6, 2) := dk_21 6 (dk_at dksX0_told_3 16 rfl rfl)
theorem dX0_told_87 : decode cX0_told 87 = .ok (.sipush 1000, 3) := dk_17 3 232 (dk_at dksX0_told_3 18 rfl rfl)
theorem dX0_told_90 : decode cX0_told 90 = .ok (.irem, 1) := dk_112 (dk_at dksX0_told_3 21 rfl rfl)
theorem dX0_told_91 : decode cX0_told 91 = .ok (.iastore, 1) := dk_79 (dk_at dksX0_told_3 22 rfl rfl)
theorem dX0_told_92 : decode cX0_told 92 = .ok (.aload 4, 2) := dk_25 4 (dk_at dksX0_told_4 0 rfl rfl)
theorem dX0_told_94 : decode cX0_told 94 = .ok (.getfield 254, 3) := dk_180 0 254 (dk_at dksX0_told_4 2 rfl rfl)
theorem dX0_told_97 : decode cX0_told 97 = .ok (.iload 5, 2) := dk_21 5 (dk_at dksX0_told_4 5 rfl rfl)
theorem dX0_told_99 : decode cX0_told 99 = .ok (.iaload, 1) := dk_46 (dk_at dksX0_told_4 7 rfl rfl)
theorem dX0_told_100 : decode cX0_told 100 = .ok (.aload_n 0, 1) := dk_42 (dk_at dksX0_told_4 8 rfl rfl)
theorem dX0_told_101 : decode cX0_told 101 = .ok (.getfield 10, 3) := dk_180 0 10 (dk_at dksX0_told_4 9 rfl rfl)
theorem dX0_told_104 : decode cX0_told 104 = .ok (.iload 5, 2) := dk_21 5 (dk_at dksX0_told_4 12 rfl rfl)
theorem dX0_told_106 : decode cX0_told 106 = .ok (.invokevirtual 82, 3) := dk_182 0 82 (dk_at dksX0_told_4 14 rfl rfl)
theorem dX0_told_109 : decode cX0_told 109 = .ok (.ifCond .eq 15, 3) := dk_153 0 15 (dk_at dksX0_told_4 17 rfl rfl)
theorem dX0_told_112 : decode cX0_told 112 = .ok (.aload_n 0, 1) := dk_42 (dk_at dksX0_told_4 20 rfl rfl)
theorem dX0_told_113 : decode cX0_told 113 = .ok (.getfield 10, 3) := dk_180 0 10 (dk_at dksX0_told_4 21 rfl rfl)
theorem dX0_told_116 : decode cX0_told 116 = .ok (.iload 5, 2) := dk_21 5 (dk_at dksX0_told_5 0 rfl rfl)
theorem dX0_told_118 : decode cX0_told 118 = .ok (.invokevirtual 171, 3) := dk_182 0 171 (dk_at dksX0_told_5 2 rfl rfl)
theorem dX0_told_121 : decode cX0_told 121 = .ok (.goto 4, 3) := dk_167 0 4 (dk_at dksX0_told_5 5 rfl rfl)
theorem dX0_told_124 : decode cX0_told 124 = .ok (.iconst 0, 1) := dk_3 (dk_at dksX0_told_5 8 rfl rfl)
theorem dX0_told_125 : decode cX0_told 125 = .ok (.if_icmp .le 5, 3) := dk_164 0 5 (dk_at dksX0_told_5 9 rfl rfl)
theorem dX0_told_128 : decode cX0_told 128 = .ok (.aconst_null, 1) := dk_1 (dk_at dksX0_told_5 12 rfl rfl)
theorem dX0_told_129 : decode cX0_told 129 = .ok (.areturn, 1) := dk_176 (dk_at dksX0_told_5 13 rfl rfl)
theorem dX0_told_130 : decode cX0_told 130 = .ok (.iinc 5 1, 3) := dk_132 5 1 (dk_at dksX0_told_5 14 rfl rfl)
theorem dX0_told_133 : decode cX0_told 133 = .ok (.goto (-90), 3) := dk_167 255 166 (dk_at dksX0_told_5 17 rfl rfl)
theorem dX0_told_136 : decode cX0_told 136 = .ok (.aload 4, 2) := dk_25 4 (dk_at dksX0_told_5 20 rfl rfl)
theorem dX0_told_138 : decode cX0_told 138 = .ok (.iload_n 3, 1) := dk_29 (dk_at dksX0_told_5 22 rfl rfl)
theorem dX0_told_139 : decode cX0_told 139 = .ok (.putfield 145, 3) := dk_181 0 145 (dk_at dksX0_told_6 0 rfl rfl)
theorem dX0_told_142 : decode cX0_told 142 = .ok (.aload 4, 2) := dk_25 4 (dk_at dksX0_told_6 3 rfl rfl)
theorem dX0_told_144 : decode cX0_told 144 = .ok (.areturn, 1) := dk_176 (dk_at dksX0_told_6 5 rfl rfl)
def dkwX0_isSteady_1 : List UInt8 := [25, 4, 4, 182, 1, 6, 25, 4, 182, 1, 9, 153, 0, 7, 4, 167, 0, 4, 3, 172]
abbrev dktX0_isSteady_1 : List UInt8 := dkwX0_isSteady_1 ++ []
def dkwX0_isSteady_0 : List UInt8 := [42, 27, 28, 29, 182, 1, 2, 58, 4, 25, 4, 199, 0, 8, 16, 254, 167, 0, 26, 42, 180, 0, 10]
abbrev dktX0_isSteady_0 : List UInt8 := dkwX0_isSteady_0 ++ dktX0_isSteady_1
theorem dksX0_isSteady_0 : cX0_isSteady.data.toList.drop 0 = dktX0_isSteady_0 := by decide +kernel
theorem dksX0_isSteady_1 : cX0_isSteady.data.toList.drop 23 = dktX0_isSteady_1 := dk_seg dksX0_isSteady_0 23 rfl rfl
theorem dX0_isSteady_0 : decode cX0_isSteady 0 = .ok (.aload_n 0, 1) := dk_42 (dk_at dksX0_isSteady_0 0 rfl rfl)
theorem dX0_isSteady_1 : decode cX0_isSteady 1 = .ok (.iload_n 1, 1) := dk_27 (dk_at dksX0_isSteady_0 1 rfl rfl)
theorem dX0_isSteady_2 : decode cX0_isSteady 2 = .ok (.iload_n 2, 1) := dk_28 (dk_at dksX0_isSteady_0 2 rfl rfl)
theorem dX0_isSteady_3 : decode cX0_isSteady 3 = .ok (.iload_n 3, 1) := dk_29 (dk_at dksX0_isSteady_0 3 rfl rfl)
theorem dX0_isSteady_4 : decode cX0_isSteady 4 = .ok (.invokevirtual 258, 3) := dk_182 1 2 (dk_at dksX0_isSteady_0 4 rfl rfl)
theorem dX0_isSteady_7 : decode cX0_isSteady 7 = .ok (.astore 4, 2) := dk_58 4 (dk_at dksX0_isSteady_0 7 rfl rfl)
theorem dX0_isSteady_9 : decode cX0_isSteady 9 = .ok (.aload 4, 2) := dk_25 4 (dk_at dksX0_isSteady_0 9 rfl rfl)
theorem dX0_isSteady_11 : decode cX0_isSteady 11 = .ok (.ifnonnull 8, 3) := dk_199 0 8 (dk_at dksX0_isSteady_0 11 rfl rfl)
theorem dX0_isSteady_14 : decode cX0_isSteady 14 = .ok (.bipush (-2), 2) := dk_16 254 (dk_at dksX0_isSteady_0 14 rfl rfl)
theorem dX0_isSteady_16 : decode cX0_isSteady 16 = .ok (.goto 26, 3) := dk_167 0 26 (dk_at dksX0_isSteady_0 16 rfl rfl)
theorem dX0_isSteady_19 : decode cX0_isSteady 19 = .ok (.aload_n 0, 1) := dk_42 (dk_at dksX0_isSteady_0 19 rfl rfl)
theorem dX0_isSteady_20 : decode cX0_isSteady 20 = .ok (.getfield 10, 3) := dk_180 0 10 (dk_at dksX0_isSteady_0 20 rfl rfl)
theorem dX0_isSteady_23 : decode cX0_isSteady 23 = .ok (.aload 4, 2) := dk_25 4 (dk_at dksX0_isSteady_1 0 rfl rfl)
theorem dX0_isSteady_25 : decode cX0_isSteady 25 = .ok (.iconst 1, 1) := dk_4 (dk_at dksX0_isSteady_1 2 rfl rfl)
theorem dX0_isSteady_26 : decode cX0_isSteady 26 = .ok (.invokevirtual 262, 3) := dk_182 1 6 (dk_at dksX0_isSteady_1 3 rfl rfl)
theorem dX0_isSteady_29 : decode cX0_isSteady 29 = .ok (.aload 4, 2) := dk_25 4 (dk_at dksX0_isSteady_1 6 rfl rfl)
theorem dX0_isSteady_31 : decode cX0_isSteady 31 = .ok (.invokevirtual 265, 3) := dk_182 1 9 (dk_at dksX0_isSteady_1 8 rfl rfl)
theorem dX0_isSteady_34 : decode cX0_isSteady 34 = .ok (.ifCond .eq 7, 3) := dk_153 0 7 (dk_at dksX0_isSteady_1 11 rfl rfl)
theorem dX0_isSteady_37 : decode cX0_isSteady 37 = .ok (.iconst 1, 1) := dk_4 (dk_at dksX0_isSteady_1 14 rfl rfl)
theorem dX0_isSteady_38 : decode cX0_isSteady 38 = .ok (.goto 4, 3) := dk_167 0 4 (dk_at dksX0_isSteady_1 15 rfl rfl)
theorem dX0_isSteady_41 : decode cX0_isSteady 41 = .ok (.iconst 0, 1) := dk_3 (dk_at dksX0_isSteady_1 18 rfl rfl)
theorem dX0_isSteady_42 : decode cX0_isSteady 42 = .ok (.ireturn, 1) := dk_172 (dk_at dksX0_isSteady_1 19 rfl rfl)
def dkwX0_index_1 : List UInt8 := [184, 1, 17, 167, 0, 4, 2, 172]
abbrev dktX0_index_1 : List UInt8 := dkwX0_index_1 ++ []
def dkwX0_index_0 : List UInt8 := [27, 184, 0, 197, 153, 0, 24, 42, 180, 0, 10, 42, 180, 0, 10, 27, 182, 0, 202, 182, 1, 13]
abbrev dktX0_index_0 : List UInt8 := dkwX0_index_0 ++ dktX0_index_1
theorem dksX0_index_0 : cX0_index.data.toList.drop 0 = dktX0_index_0 := by decide +kernel
theorem dksX0_index_1 : cX0_index.data.toList.drop 22 = dktX0_index_1 := dk_seg dksX0_index_0 22 rfl rfl
theorem dX0_index_0 : decode cX0_index 0 = .ok (.iload_n 1, 1) := dk_27 (dk_at dksX0_index_0 0 rfl rfl)
theorem dX0_index_1 : decode cX0_index 1 = .ok (.invokestatic 197, 3) := dk_184 0 197 (dk_at dksX0_index_0 1 rfl rfl)
theorem dX0_index_4 : decode cX0_index 4 = .ok (.ifCond .eq 24, 3) := dk_153 0 24 (dk_at dksX0_index_0 4 rfl rfl)
theorem dX0_index_7 : decode cX0_index 7 = .ok (.aload_n 0, 1) := dk_42 (dk_at dksX0_index_0 7 rfl rfl)
theorem dX0_index_8 : decode cX0_index 8 = .ok (.getfield 10, 3) := dk_180 0 10 (dk_at dksX0_index_0 8 rfl rfl)
theorem dX0_index_11 : decode cX0_index 11 = .ok (.aload_n 0, 1) := dk_42 (dk_at dksX0_index_0 11 rfl rfl)
theorem dX0_index_12 : decode cX0_index 12 = .ok (.getfield 10, 3) := dk_180 0 10 (dk_at dksX0_index_0 12 rfl rfl)
theorem dX0_index_15 : decode cX0_index 15 = .ok (.iload_n 1, 1) := dk_27 (dk_at dksX0_index_0 15 rfl rfl)
theorem dX0_index_16 : decode cX0_index 16 = .ok (.invokevirtual 202, 3) := dk_182 0 202 (dk_at dksX0_index_0 16 rfl rfl)
theorem dX0_index_19 : decode cX0_index 19 = .ok (.invokevirtual 269, 3) := dk_182 1 13 (dk_at dksX0_index_0 19 rfl rfl)
theorem dX0_index_22 : decode cX0_index 22 = .ok (.invokestatic 273, 3) := dk_184 1 17 (dk_at dksX0_index_1 0 rfl rfl)
theorem dX0_index_25 : decode cX0_index 25 = .ok (.goto 4, 3) := dk_167 0 4 (dk_at dksX0_index_1 3 rfl rfl)
theorem dX0_index_28 : decode cX0_index 28 = .ok (.iconst (-1), 1) := dk_2 (dk_at dksX0_index_1 6 rfl rfl)
theorem dX0_index_29 : decode cX0_index 29 = .ok (.ireturn, 1) := dk_172 (dk_at dksX0_index_1 7 rfl rfl)
def dkwX0_drop_1 : List UInt8 := [167, 0, 4, 2, 172]
abbrev dktX0_drop_1 : List UInt8 := dkwX0_drop_1 ++ []
def dkwX0_drop_0 : List UInt8 := [27, 184, 0, 197, 153, 0, 21, 42, 180, 0, 10, 42, 180, 0, 10, 27, 182, 0, 202, 182, 1, 23]
abbrev dktX0_drop_0 : List UInt8 := dkwX0_drop_0 ++ dktX0_drop_1
theorem dksX0_drop_0 : cX0_drop.data.toList.drop 0 = dktX0_drop_0 := by decide +kernel
theorem dksX0_drop_1 : cX0_drop.data.toList.drop 22 = dktX0_drop_1 := dk_seg dksX0_drop_0 22 rfl rfl
theorem dX0_drop_0 : decode cX0_drop 0 = .ok (.iload_n 1, 1) := dk_27 (dk_at dksX0_drop_0 0 rfl rfl)
theorem dX0_drop_1 : decode cX0_drop 1 = .ok (.invokestatic 197, 3) := dk_184 0 197 (dk_at dksX0_drop_0 1 rfl rfl)
theorem dX0_drop_4 : decode cX0_drop 4 = .ok (.ifCond .eq 21, 3) := dk_153 0 21 (dk_at dksX0_drop_0 4 rfl rfl)
theorem dX0_drop_7 : decode cX0_drop 7 = .ok (.aload_n 0, 1) := dk_42 (dk_at dksX0_drop_0 7 rfl rfl)
theorem dX0_drop_8 : decode cX0_drop 8 = .ok (.getfield 10, 3) := dk_180 0 10 (dk_at dksX0_drop_0 8 rfl rfl)
theorem dX0_drop_11 : decode cX0_drop 11 = .ok (.aload_n 0, 1) := dk_42 (dk_at dksX0_drop_0 11 rfl rfl)
theorem dX0_drop_12 : decode cX0_drop 12 = .ok (.getfield 10, 3) := dk_180 0 10 (dk_at dksX0_drop_0 12 rfl rfl)
theorem dX0_drop_15 : decode cX0_drop 15 = .ok (.iload_n 1, 1) := dk_27 (dk_at dksX0_drop_0 15 rfl rfl)
theorem dX0_drop_16 : decode cX0_drop 16 = .ok (.invokevirtual 202, 3) := dk_182 0 202 (dk_at dksX0_drop_0 16 rfl rfl)
theorem dX0_drop_19 : decode cX0_drop 19 = .ok (.invokevirtual 279, 3) := dk_182 1 23 (dk_at dksX0_drop_0 19 rfl rfl)
theorem dX0_drop_22 : decode cX0_drop 22 = .ok (.goto 4, 3) := dk_167 0 4 (dk_at dksX0_drop_1 0 rfl rfl)
theorem dX0_drop_25 : decode cX0_drop 25 = .ok (.iconst (-1), 1) := dk_2 (dk_at dksX0_drop_1 3 rfl rfl)
theorem dX0_drop_26 : decode cX0_drop 26 = .ok (.ireturn, 1) := dk_172 (dk_at dksX0_drop_1 4 rfl rfl)
def dkwX0_ratio_1 : List UInt8 := [180, 0, 10, 27, 182, 0, 202, 28, 182, 1, 26, 184, 1, 17, 167, 0, 4, 2, 172]
abbrev dktX0_ratio_1 : List UInt8 := dkwX0_ratio_1 ++ []
def dkwX0_ratio_0 : List UInt8 := [27, 184, 0, 197, 153, 0, 36, 42, 180, 0, 10, 28, 182, 0, 82, 153, 0, 25, 42, 180, 0, 10, 42]
abbrev dktX0_ratio_0 : List UInt8 := dkwX0_ratio_0 ++ dktX0_ratio_1
theorem dksX0_ratio_0 : cX0_ratio.data.toList.drop 0 = dktX0_ratio_0 := by decide +kernel
theorem dksX0_ratio_1 : cX0_ratio.data.toList.drop 23 = dktX0_ratio_1 := dk_seg dksX0_ratio_0 23 rfl rfl
theorem dX0_ratio_0 : decode cX0_ratio 0 = .ok (.iload_n 1, 1) := dk_27 (dk_at dksX0_ratio_0 0 rfl rfl)
theorem dX0_ratio_1 : decode cX0_ratio 1 = .ok (.invokestatic 197, 3) := dk_184 0 197 (dk_at dksX0_ratio_0 1 rfl rfl)
theorem dX0_ratio_4 : decode cX0_ratio 4 = .ok (.ifCond .eq 36, 3) := dk_153 0 36 (dk_at dksX0_ratio_0 4 rfl rfl)
theorem dX0_ratio_7 : decode cX0_ratio 7 = .ok (.aload_n 0, 1) := dk_42 (dk_at dksX0_ratio_0 7 rfl rfl)
theorem dX0_ratio_8 : decode cX0_ratio 8 = .ok (.getfield 10, 3) := dk_180 0 10 (dk_at dksX0_ratio_0 8 rfl rfl)
theorem dX0_ratio_11 : decode cX0_ratio 11 = .ok (.iload_n 2, 1) := dk_28 (dk_at dksX0_ratio_0 11 rfl rfl)
theorem dX0_ratio_12 : decode cX0_ratio 12 = .ok (.invokevirtual 82, 3) := dk_182 0 82 (dk_at dksX0_ratio_0 12 rfl rfl)
theorem dX0_ratio_15 : decode cX0_ratio 15 = .ok (.ifCond .eq 25, 3) := dk_153 0 25 (dk_at dksX0_ratio_0 15 rfl rfl)
theorem dX0_ratio_18 : decode cX0_ratio 18 = .ok (.aload_n 0, 1) := dk_42 (dk_at dksX0_ratio_0 18 rfl rfl)
theorem dX0_ratio_19 : decode cX0_ratio 19 = .ok (.getfield 10, 3) := dk_180 0 10 (dk_at dksX0_ratio_0 19 rfl rfl)
theorem dX0_ratio_22 : decode cX0_ratio 22 = .ok (.aload_n 0, 1) := dk_42 (dk_at dksX0_ratio_0 22 rfl rfl)
theorem dX0_ratio_23 : decode cX0_ratio 23 = .ok (.getfield 10, 3) := dk_180 0 10 (dk_at dksX0_ratio_1 0 rfl rfl)
theorem dX0_ratio_26 : decode cX0_ratio 26 = .ok (.iload_n 1, 1) := dk_27 (dk_at dksX0_ratio_1 3 rfl rfl)
theorem dX0_ratio_27 : decode cX0_ratio 27 = .ok (.invokevirtual 202, 3) := dk_182 0 202 (dk_at dksX0_ratio_1 4 rfl rfl)
theorem dX0_ratio_30 : decode cX0_ratio 30 = .ok (.iload_n 2, 1) := dk_28 (dk_at dksX0_ratio_1 7 rfl rfl)
theorem dX0_ratio_31 : decode cX0_ratio 31 = .ok (.invokevirtual 282, 3) := dk_182 1 26 (dk_at dksX0_ratio_1 8 rfl rfl)
theorem dX0_ratio_34 : decode cX0_ratio 34 = .ok (.invokestatic 273, 3) := dk_184 1 17 (dk_at dksX0_ratio_1 11 rfl rfl)
theorem dX0_ratio_37 : decode cX0_ratio 37 = .ok (.goto 4, 3) := dk_167 0 4 (dk_at dksX0_ratio_1 14 rfl rfl)
theorem dX0_ratio_40 : decode cX0_ratio 40 = .ok (.iconst (-1), 1) := dk_2 (dk_at dksX0_ratio_1 17 rfl rfl)
theorem dX0_ratio_41 : decode cX0_ratio 41 = .ok (.ireturn, 1) := dk_172 (dk_at dksX0_ratio_1 18 rfl rfl)
def dkwX0_mood_0 : List UInt8 := [42, 180, 0, 10, 182, 1, 30, 184, 1, 34, 173]
abbrev dktX0_mood_0 : List UInt8 := dkwX0_mood_0 ++ []
theorem dksX0_mood_0 : cX0_mood.data.toList.drop 0 = dktX0_mood_0 := by decide +kernel
theorem dX0_mood_0 : decode cX0_mood 0 = .ok (.aload_n 0, 1) := dk_42 (dk_at dksX0_mood_0 0 rfl rfl)
theorem dX0_mood_1 : decode cX0_mood 1 = .ok (.getfield 10, 3) := dk_180 0 10 (dk_at dksX0_mood_0 1 rfl rfl)
theorem dX0_mood_4 : decode cX0_mood 4 = .ok (.invokevirtual 286, 3) := dk_182 1 30 (dk_at dksX0_mood_0 4 rfl rfl)
theorem dX0_mood_7 : decode cX0_mood 7 = .ok (.invokestatic 290, 3) := dk_184 1 34 (dk_at dksX0_mood_0 7 rfl rfl)
theorem dX0_mood_10 : decode cX0_mood 10 = .ok (.lreturn, 1) := dk_173 (dk_at dksX0_mood_0 10 rfl rfl)
def dkwX0_hundredths_0 : List UInt8 := [42, 180, 0, 10, 182, 1, 30, 20, 1, 40, 107, 142, 172]
abbrev dktX0_hundredths_0 : List UInt8 := dkwX0_hundredths_0 ++ []
theorem dksX0_hundredths_0 : cX0_hundredths.data.toList.drop 0 = dktX0_hundredths_0 := by decide +kernel
theorem dX0_hundredths_0 : decode cX0_hundredths 0 = .ok (.aload_n 0, 1) := dk_42 (dk_at dksX0_hundredths_0 0 rfl rfl)
theorem dX0_hundredths_1 : decode cX0_hundredths 1 = .ok (.getfield 10, 3) := dk_180 0 10 (dk_at dksX0_hundredths_0 1 rfl rfl)
theorem dX0_hundredths_4 : decode cX0_hundredths 4 = .ok (.invokevirtual 286, 3) := dk_182 1 30 (dk_at dksX0_hundredths_0 4 rfl rfl)
theorem dX0_hundredths_7 : decode cX0_hundredths 7 = .ok (.ldc2_w 296, 3) := dk_20 1 40 (dk_at dksX0_hundredths_0 7 rfl rfl)
theorem dX0_hundredths_10 : decode cX0_hundredths 10 = .ok (.dmul, 1) := dk_107 (dk_at dksX0_hundredths_0 10 rfl rfl)
theorem dX0_hundredths_11 : decode cX0_hundredths 11 = .ok (.d2i, 1) := dk_142 (dk_at dksX0_hundredths_0 11 rfl rfl)
theorem dX0_hundredths_12 : decode cX0_hundredths 12 = .ok (.ireturn, 1) := dk_172 (dk_at dksX0_hundredths_0 12 rfl rfl)
def dkwX0_rescue_2 : List UInt8 := [182, 1, 42, 29, 182, 0, 206, 167, 0, 4, 2, 172]
abbrev dktX0_rescue_2 : List UInt8 := dkwX0_rescue_2 ++ []
def dkwX0_rescue_1 : List UInt8 := [133, 9, 20, 0, 200, 184, 0, 45, 153, 0, 24, 42, 180, 0, 10, 42, 42, 180, 0, 10, 27, 28]
abbrev dktX0_rescue_1 : List UInt8 := dkwX0_rescue_1 ++ dktX0_rescue_2
def dkwX0_rescue_0 : List UInt8 := [42, 180, 0, 10, 27, 182, 0, 72, 153, 0, 48, 28, 133, 9, 20, 0, 62, 184, 0, 45, 153, 0, 36, 29]
abbrev dktX0_rescue_0 : List UInt8 := dkwX0_rescue_0 ++ dktX0_rescue_1
theorem dksX0_rescue_0 : cX0_rescue.data.toList.drop 0 = dktX0_rescue_0 := by decide +kernel
theorem dksX0_rescue_1 : cX0_rescue.data.toList.drop 24 = dktX0_rescue_1 := dk_seg dksX0_rescue_0 24 rfl rfl
theorem dksX0_rescue_2 : cX0_rescue.data.toList.drop 46 = dktX0_rescue_2 := dk_seg dksX0_rescue_1 22 rfl rfl
theorem dX0_rescue_0 : decode cX0_rescue 0 = .ok (.aload_n 0, 1) := dk_42 (dk_at dksX0_rescue_0 0 rfl rfl)
theorem dX0_rescue_1 : decode cX0_rescue 1 = .ok (.getfield 10, 3) := dk_180 0 10 (dk_at dksX0_rescue_0 1 rfl rfl)
theorem dX0_rescue_4 : decode cX0_rescue 4 = .ok (.iload_n 1, 1) := dk_27 (dk_at dksX0_rescue_0 4 rfl rfl)
theorem dX0_rescue_5 : decode cX0_rescue 5 = .ok (.invokevirtual 72, 3) := dk_182 0 72 (dk_at dksX0_rescue_0 5 rfl rfl)
theorem dX0_rescue_8 : decode cX0_rescue 8 = .ok (.ifCond .eq 48, 3) := dk_153 0 48 (dk_at dksX0_rescue_0 8 rfl rfl)
theorem dX0_rescue_11 : decode cX0_rescue 11 = .ok (.iload_n 2, 1) := dk_28 (dk_at dksX0_rescue_0 11 rfl rfl)
theorem dX0_rescue_12 : decode cX0_rescue 12 = .ok (.i2l, 1) := dk_133 (dk_at dksX0_rescue_0 12 rfl rfl)
theorem dX0_rescue_13 : decode cX0_rescue 13 = .ok (.lconst 0, 1) := dk_9 (dk_at dksX0_rescue_0 13 rfl rfl)
theorem dX0_rescue_14 : decode cX0_rescue 14 = .ok (.ldc2_w 62, 3) := dk_20 0 62 (dk_at dksX0_rescue_0 14 rfl rfl)
theorem dX0_rescue_17 : decode cX0_rescue 17 = .ok (.invokestatic 45, 3) := dk_184 0 45 (dk_at dksX0_rescue_0 17 rfl rfl)
theorem dX0_rescue_20 : decode cX0_rescue 20 = .ok (.ifCond .eq 36, 3) := dk_153 0 36 (dk_at dksX0_rescue_0 20 rfl rfl)
theorem dX0_rescue_23 : decode cX0_rescue 23 = .ok (.iload_n 3, 1) := dk_29 (dk_at dksX0_rescue_0 23 rfl rfl)
theorem dX0_rescue_24 : decode cX0_rescue 24 = .ok (.i2l, 1) := dk_133 (dk_at dksX0_rescue_1 0 rfl rfl)
theorem dX0_rescue_25 : decode cX0_rescue 25 = .ok (.lconst 0, 1) := dk_9 (dk_at dksX0_rescue_1 1 rfl rfl)
theorem dX0_rescue_26 : decode cX0_rescue 26 = .ok (.ldc2_w 200, 3) := dk_20 0 200 (dk_at dksX0_rescue_1 2 rfl rfl)
theorem dX0_rescue_29 : decode cX0_rescue 29 = .ok (.invokestatic 45, 3) := dk_184 0 45 (dk_at dksX0_rescue_1 5 rfl rfl)
theorem dX0_rescue_32 : decode cX0_rescue 32 = .ok (.ifCond .eq 24, 3) := dk_153 0 24 (dk_at dksX0_rescue_1 8 rfl rfl)
theorem dX0_rescue_35 : decode cX0_rescue 35 = .ok (.aload_n 0, 1) := dk_42 (dk_at dksX0_rescue_1 11 rfl rfl)
theorem dX0_rescue_36 : decode cX0_rescue 36 = .ok (.getfield 10, 3) := dk_180 0 10 (dk_at dksX0_rescue_1 12 rfl rfl)
theorem dX0_rescue_39 : decode cX0_rescue 39 = .ok (.aload_n 0, 1) := dk_42 (dk_at dksX0_rescue_1 15 rfl rfl)
theorem dX0_rescue_40 : decode cX0_rescue 40 = .ok (.aload_n 0, 1) := dk_42 (dk_at dksX0_rescue_1 16 rfl rfl)
theorem dX0_rescue_41 : decode cX0_rescue 41 = .ok (.getfield 10, 3) := dk_180 0 10 (dk_at dksX0_rescue_1 17 rfl rfl)
theorem dX0_rescue_44 : decode cX0_rescue 44 = .ok (.iload_n 1, 1) := dk_27 (dk_at dksX0_rescue_1 20 rfl rfl)
theorem dX0_rescue_45 : decode cX0_rescue 45 = .ok (.iload_n 2, 1) := dk_28 (dk_at dksX0_rescue_1 21 rfl rfl)
theorem dX0_rescue_46 : decode cX0_rescue 46 = .ok (.invokevirtual 298, 3) := dk_182 1 42 (dk_at dksX0_rescue_2 0 rfl rfl)
theorem dX0_rescue_49 : decode cX0_rescue 49 = .ok (.iload_n 3, 1) := dk_29 (dk_at dksX0_rescue_2 3 rfl rfl)
theorem dX0_rescue_50 : decode cX0_rescue 50 = .ok (.invokevirtual 206, 3) := dk_182 0 206 (dk_at dksX0_rescue_2 4 rfl rfl)
theorem dX0_rescue_53 : decode cX0_rescue 53 = .ok (.goto 4, 3) := dk_167 0 4 (dk_at dksX0_rescue_2 7 rfl rfl)
theorem dX0_rescue_56 : decode cX0_rescue 56 = .ok (.iconst (-1), 1) := dk_2 (dk_at dksX0_rescue_2 10 rfl rfl)
theorem dX0_rescue_57 : decode cX0_rescue 57 = .ok (.ireturn, 1) := dk_172 (dk_at dksX0_rescue_2 11 rfl rfl)
def dkwX0_withCoins_1 : List UInt8 := [3, 92, 46, 29, 100, 79, 25, 4, 176]
abbrev dktX0_withCoins_1 : List UInt8 := dkwX0_withCoins_1 ++ []
def dkwX0_withCoins_0 : List UInt8 := [43, 180, 0, 67, 28, 50, 3, 92, 46, 29, 96, 79, 43, 182, 0, 141, 58, 4, 43, 180, 0, 67, 28, 50]
abbrev dktX0_withCoins_0 : List UInt8 := dkwX0_withCoins_0 ++ dktX0_withCoins_1
theorem dksX0_withCoins_0 : cX0_withCoins.data.toList.drop 0 = dktX0_withCoins_0 := by decide +kernel
theorem dksX0_withCoins_1 : cX0_withCoins.data.toList.drop 24 = dktX0_withCoins_1 := dk_seg dksX0_withCoins_0 24 rfl rfl
theorem dX0_withCoins_0 : decode cX0_withCoins 0 = .ok (.aload_n 1, 1) := dk_43 (dk_at dksX0_withCoins_0 0 rfl rfl)
theorem dX0_withCoins_1 : decode cX0_withCoins 1 = .ok (.getfield 67, 3) := dk_180 0 67 (dk_at dksX0_withCoins_0 1 rfl rfl)
theorem dX0_withCoins_4 : decode cX0_withCoins 4 = .ok (.iload_n 2, 1) := dk_28 (dk_at dksX0_withCoins_0 4 rfl rfl)
theorem dX0_withCoins_5 : decode cX0_withCoins 5 = .ok (.aaload, 1) := dk_50 (dk_at dksX0_withCoins_0 5 rfl rfl)
theorem dX0_withCoins_6 : decode cX0_withCoins 6 = .ok (.iconst 0, 1) := dk_3 (dk_at dksX0_withCoins_0 6 rfl rfl)
theorem dX0_withCoins_7 : decode cX0_withCoins 7 = .ok (.dup2, 1) := dk_92 (dk_at dksX0_withCoins_0 7 rfl rfl)
theorem dX0_withCoins_8 : decode cX0_withCoins 8 = .ok (.iaload, 1) := dk_46 (dk_at dksX0_withCoins_0 8 rfl rfl)
theorem dX0_withCoins_9 : decode cX0_withCoins 9 = .ok (.iload_n 3, 1) := dk_29 (dk_at dksX0_withCoins_0 9 rfl rfl)
theorem dX0_withCoins_10 : decode cX0_withCoins 10 = .ok (.iadd, 1) := dk_96 (dk_at dksX0_withCoins_0 10 rfl rfl)
theorem dX0_withCoins_11 : decode cX0_withCoins 11 = .ok (.iastore, 1) := dk_79 (dk_at dksX0_withCoins_0 11 rfl rfl)
theorem dX0_withCoins_12 : decode cX0_withCoins 12 = .ok (.aload_n 1, 1) := dk_43 (dk_at dksX0_withCoins_0 12 rfl rfl)
theorem dX0_withCoins_13 : decode cX0_withCoins 13 = .ok (.invokevirtual 141, 3) := dk_182 0 141 (dk_at dksX0_withCoins_0 13 rfl rfl)
theorem dX0_withCoins_16 : decode cX0_withCoins 16 = .ok (.astore 4, 2) := dk_58 4 (dk_at dksX0_withCoins_0 16 rfl rfl)
theorem dX0_withCoins_18 : decode cX0_withCoins 18 = .ok (.aload_n 1, 1) := dk_43 (dk_at dksX0_withCoins_0 18 rfl rfl)
theorem dX0_withCoins_19 : decode cX0_withCoins 19 = .ok (.getfield 67, 3) := dk_180 0 67 (dk_at dksX0_withCoins_0 19 rfl rfl)
theorem dX0_withCoins_22 : decode cX0_withCoins 22 = .ok (.iload_n 2, 1) := dk_28 (dk_at dksX0_withCoins_0 22 rfl rfl)
theorem dX0_withCoins_23 : decode cX0_withCoins 23 = .ok (.aaload, 1) := dk_50 (dk_at dksX0_withCoins_0 23 rfl rfl)
theorem dX0_withCoins_24 : decode cX0_withCoins 24 = .ok (.iconst 0, 1) := dk_3 (dk_at dksX0_withCoins_1 0 rfl rfl)
theorem dX0_withCoins_25 : decode cX0_withCoins 25 = .ok (.dup2, 1) := dk_92 (dk_at dksX0_withCoins_1 1 rfl rfl)
theorem dX0_withCoins_26 : decode cX0_withCoins 26 = .ok (.iaload, 1) := dk_46 (dk_at dksX0_withCoins_1 2 rfl rfl)
theorem dX0_withCoins_27 : decode cX0_withCoins 27 = .ok (.iload_n 3, 1) := dk_29 (dk_at dksX0_withCoins_1 3 rfl rfl)
theorem dX0_withCoins_28 : decode cX0_withCoins 28 = .ok (.isub, 1) := dk_100 (dk_at dksX0_withCoins_1 4 rfl rfl)
theorem dX0_withCoins_29 : decode cX0_withCoins 29 = .ok (.iastore, 1) := dk_79 (dk_at dksX0_withCoins_1 5 rfl rfl)
theorem dX0_withCoins_30 : decode cX0_withCoins 30 = .ok (.aload 4, 2) := dk_25 4 (dk_at dksX0_withCoins_1 6 rfl rfl)
theorem dX0_withCoins_32 : decode cX0_withCoins 32 = .ok (.areturn, 1) := dk_176 (dk_at dksX0_withCoins_1 8 rfl rfl)
def dkwX0_helper_2 : List UInt8 := [42, 180, 0, 10, 42, 42, 180, 0, 10, 29, 27, 182, 1, 42, 182, 0, 246, 172]
abbrev dktX0_helper_2 : List UInt8 := dkwX0_helper_2 ++ []
def dkwX0_helper_1 : List UInt8 := [42, 42, 180, 0, 10, 27, 182, 1, 46, 62, 28, 153, 0, 9, 29, 16, 254, 160, 0, 7, 29, 167, 0, 20]
abbrev dktX0_helper_1 : List UInt8 := dkwX0_helper_1 ++ dktX0_helper_2
def dkwX0_helper_0 : List UInt8 := [27, 133, 9, 20, 0, 62, 184, 0, 45, 153, 0, 13, 28, 133, 9, 10, 184, 0, 45, 154, 0, 5, 2, 172]
abbrev dktX0_helper_0 : List UInt8 := dkwX0_helper_0 ++ dktX0_helper_1
theorem dksX0_helper_0 : cX0_helper.data.toList.drop 0 = dktX0_helper_0 := by decide +kernel
theorem dksX0_helper_1 : cX0_helper.data.toList.drop 24 = dktX0_helper_1 := dk_seg dksX0_helper_0 24 rfl rfl
theorem dksX0_helper_2 : cX0_helper.data.toList.drop 48 = dktX0_helper_2 := dk_seg dksX0_helper_1 24 rfl rfl
theorem dX0_helper_0 : decode cX0_helper 0 = .ok (.iload_n 1, 1) := dk_27 (dk_at dksX0_helper_0 0 rfl rfl)
theorem dX0_helper_1 : decode cX0_helper 1 = .ok (.i2l, 1) := dk_133 (dk_at dksX0_helper_0 1 rfl rfl)
theorem dX0_helper_2 : decode cX0_helper 2 = .ok (.lconst 0, 1) := dk_9 (dk_at dksX0_helper_0 2 rfl rfl)
theorem dX0_helper_3 : decode cX0_helper 3 = .ok (.ldc2_w 62, 3) := dk_20 0 62 (dk_at dksX0_helper_0 3 rfl rfl)
theorem dX0_helper_6 : decode cX0_helper 6 = .ok (.invokestatic 45, 3) := dk_184 0 45 (dk_at dksX0_helper_0 6 rfl rfl)
theorem dX0_helper_9 : decode cX0_helper 9 = .ok (.ifCond .eq 13, 3) := dk_153 0 13 (dk_at dksX0_helper_0 9 rfl rfl)
theorem dX0_helper_12 : decode cX0_helper 12 = .ok (.iload_n 2, 1) := dk_28 (dk_at dksX0_helper_0 12 rfl rfl)
theorem dX0_helper_13 : decode cX0_helper 13 = .ok (.i2l, 1) := dk_133 (dk_at dksX0_helper_0 13 rfl rfl)
theorem dX0_helper_14 : decode cX0_helper 14 = .ok (.lconst 0, 1) := dk_9 (dk_at dksX0_helper_0 14 rfl rfl)
theorem dX0_helper_15 : decode cX0_helper 15 = .ok (.lconst 1, 1) := dk_10 (dk_at dksX0_helper_0 15 rfl rfl)
theorem dX0_helper_16 : decode cX0_helper 16 = .ok (.invokestatic 45, 3) := dk_184 0 45 (dk_at dksX0_helper_0 16 rfl rfl)
theorem dX0_helper_19 : decode cX0_helper 19 = .ok (.ifCond .ne 5, 3) := dk_154 0 5 (dk_at dksX0_helper_0 19 rfl rfl)
theorem dX0_helper_22 : decode cX0_helper 22 = .ok (.iconst (-1), 1) := dk_2 (dk_at dksX0_helper_0 22 rfl rfl)
theorem dX0_helper_23 : decode cX0_helper 23 = .ok (.ireturn, 1) := dk_172 (dk_at dksX0_helper_0 23 rfl rfl)
theorem dX0_helper_24 : decode cX0_helper 24 = .ok (.aload_n 0, 1) := dk_42 (dk_at dksX0_helper_1 0 rfl rfl)
theorem dX0_helper_25 : decode cX0_helper 25 = .ok (.aload_n 0, 1) := dk_42 (dk_at dksX0_helper_1 1 rfl rfl)
theorem dX0_helper_26 : decode cX0_helper 26 = .ok (.getfield 10, 3) := dk_180 0 10 (dk_at dksX0_helper_1 2 rfl rfl)
theorem dX0_helper_29 : decode cX0_helper 29 = .ok (.iload_n 1, 1) := dk_27 (dk_at dksX0_helper_1 5 rfl rfl)
theorem dX0_helper_30 : decode cX0_helper 30 = .ok (.invokevirtual 302, 3) := dk_182 1 46 (dk_at dksX0_helper_1 6 rfl rfl)
theorem dX0_helper_33 : decode cX0_helper 33 = .ok (.istore_n 3, 1) := dk_62 (dk_at dksX0_helper_1 9 rfl rfl)
theorem dX0_helper_34 : decode cX0_helper 34 = .ok (.iload_n 2, 1) := dk_28 (dk_at dksX0_helper_1 10 rfl rfl)
theorem dX0_helper_35 : decode cX0_helper 35 = .ok (.ifCond .eq 9, 3) := dk_153 0 9 (dk_at dksX0_helper_1 11 rfl rfl)
theorem dX0_helper_38 : decode cX0_helper 38 = .ok (.iload_n 3, 1) := dk_29 (dk_at dksX0_helper_1 14 rfl rfl)
theorem dX0_helper_39 : decode cX0_helper 39 = .ok (.bipush (-2), 2) := dk_16 254 (dk_at dksX0_helper_1 15 rfl rfl)
theorem dX0_helper_41 : decode cX0_helper 41 = .ok (.if_icmp .ne 7, 3) := dk_160 0 7 (dk_at dksX0_helper_1 17 rfl rfl)
theorem dX0_helper_44 : decode cX0_helper 44 = .ok (.iload_n 3, 1) := dk_29 (dk_at dksX0_helper_1 20 rfl rfl)
theorem dX0_helper_45 : decode cX0_helper 45 = .ok (.goto 20, 3) := dk_167 0 20 (dk_at dksX0_helper_1 21 rfl rfl)
theorem dX0_helper_48 : decode cX0_helper 48 = .ok (.aload_n 0, 1) := dk_42 (dk_at dksX0_helper_2 0 rfl rfl)
theorem dX0_helper_49 : decode cX0_helper 49 = .ok (.getfield 10, 3) := dk_180 0 10 (dk_at dksX0_helper_2 1 rfl rfl)
theorem dX0_helper_52 : decode cX0_helper 52 = .ok (.aload_n 0, 1) := dk_42 (dk_at dksX0_helper_2 4 rfl rfl)
theorem dX0_helper_53 : decode cX0_helper 53 = .ok (.aload_n 0, 1) := dk_42 (dk_at dksX0_helper_2 5 rfl rfl)
theorem dX0_helper_54 : decode cX0_helper 54 = .ok (.getfield 10, 3) := dk_180 0 10 (dk_at dksX0_helper_2 6 rfl rfl)
theorem dX0_helper_57 : decode cX0_helper 57 = .ok (.iload_n 3, 1) := dk_29 (dk_at dksX0_helper_2 9 rfl rfl)
theorem dX0_helper_58 : decode cX0_helper 58 = .ok (.iload_n 1, 1) := dk_27 (dk_at dksX0_helper_2 10 rfl rfl)
theorem dX0_helper_59 : decode cX0_helper 59 = .ok (.invokevirtual 298, 3) := dk_182 1 42 (dk_at dksX0_helper_2 11 rfl rfl)
theorem dX0_helper_62 : decode cX0_helper 62 = .ok (.invokevirtual 246, 3) := dk_182 0 246 (dk_at dksX0_helper_2 14 rfl rfl)
theorem dX0_helper_65 : decode cX0_helper 65 = .ok (.ireturn, 1) := dk_172 (dk_at dksX0_helper_2 17 rfl rfl)
def dkwX0_bestHouse_2 : List UInt8 := [21, 5, 62, 21, 6, 54, 4, 132, 5, 1, 167, 255, 207, 29, 172]
abbrev dktX0_bestHouse_2 : List UInt8 := dkwX0_bestHouse_2 ++ []
def dkwX0_bestHouse_1 : List UInt8 := [182, 1, 42, 182, 0, 246, 54, 6, 29, 16, 254, 159, 0, 13, 21, 6, 21, 4, 161, 0, 6, 167, 0, 10]
abbrev dktX0_bestHouse_1 : List UInt8 := dkwX0_bestHouse_1 ++ dktX0_bestHouse_2
def dkwX0_bestHouse_0 : List UInt8 := [16, 254, 62, 3, 54, 4, 3, 54, 5, 21, 5, 43, 180, 0, 64, 162, 0, 46, 43, 42, 43, 21, 5, 28]
abbrev dktX0_bestHouse_0 : List UInt8 := dkwX0_bestHouse_0 ++ dktX0_bestHouse_1
theorem dksX0_bestHouse_0 : cX0_bestHouse.data.toList.drop 0 = dktX0_bestHouse_0 := by decide +kernel
theorem dksX0_bestHouse_1 : cX0_bestHouse.data.toList.drop 24 = dktX0_bestHouse_1 := dk_seg dksX0_bestHouse_0 24 rfl rfl
theorem dksX0_bestHouse_2 : cX0_bestHouse.data.toList.drop 48 = dktX0_bestHouse_2 := dk_seg dksX0_bestHouse_1 24 rfl rfl
theorem dX0_bestHouse_0 : decode cX0_bestHouse 0 = .ok (.bipush (-2), 2) := dk_16 254 (dk_at dksX0_bestHouse_0 0 rfl rfl)
theorem dX0_bestHouse_2 : decode cX0_bestHouse 2 = .ok (.istore_n 3, 1) := dk_62 (dk_at dksX0_bestHouse_0 2 rfl rfl)
theorem dX0_bestHouse_3 : decode cX0_bestHouse 3 = .ok (.iconst 0, 1) := dk_3 (dk_at dksX0_bestHouse_0 3 rfl rfl)
theorem dX0_bestHouse_4 : decode cX0_bestHouse 4 = .ok (.istore 4, 2) := dk_54 4 (dk_at dksX0_bestHouse_0 4 rfl rfl)
theorem dX0_bestHouse_6 : decode cX0_bestHouse 6 = .ok (.iconst 0, 1) := dk_3 (dk_at dksX0_bestHouse_0 6 rfl rfl)
theorem dX0_bestHouse_7 : decode cX0_bestHouse 7 = .ok (.istore 5, 2) := dk_54 5 (dk_at dksX0_bestHouse_0 7 rfl rfl)
theorem dX0_bestHouse_9 : decode cX0_bestHouse 9 = .ok (.iload 5, 2) := dk_21 5 (dk_at dksX0_bestHouse_0 9 rfl rfl)
theorem dX0_bestHouse_11 : decode cX0_bestHouse 11 = .ok (.aload_n 1, 1) := dk_43 (dk_at dksX0_bestHouse_0 11 rfl rfl)
theorem dX0_bestHouse_12 : decode cX0_bestHouse 12 = .ok (.getfield 64, 3) := dk_180 0 64 (dk_at dksX0_bestHouse_0 12 rfl rfl)
theorem dX0_bestHouse_15 : decode cX0_bestHouse 15 = .ok (.if_icmp .ge 46, 3) := dk_162 0 46 (dk_at dksX0_bestHouse_0 15 rfl rfl)
theorem dX0_bestHouse_18 : decode cX0_bestHouse 18 = .ok (.aload_n 1, 1) := dk_43 (dk_at dksX0_bestHouse_0 18 rfl rfl)
theorem dX0_bestHouse_19 : decode cX0_bestHouse 19 = .ok (.aload_n 0, 1) := dk_42 (dk_at dksX0_bestHouse_0 19 rfl rfl)
theorem dX0_bestHouse_20 : decode cX0_bestHouse 20 = .ok (.aload_n 1, 1) := dk_43 (dk_at dksX0_bestHouse_0 20 rfl rfl)
theorem dX0_bestHouse_21 : decode cX0_bestHouse 21 = .ok (.iload 5, 2) := dk_21 5 (dk_at dksX0_bestHouse_0 21 rfl rfl)
theorem dX0_bestHouse_23 : decode cX0_bestHouse 23 = .ok (.iload_n 2, 1) := dk_28 (dk_at dksX0_bestHouse_0 23 rfl rfl)
theorem dX0_bestHouse_24 : decode cX0_bestHouse 24 = .ok (.invokevirtual 298, 3) := dk_182 1 42 (dk_at dksX0_bestHouse_1 0 rfl rfl)
theorem dX0_bestHouse_27 : decode cX0_bestHouse 27 = .ok (.invokevirtual 246, 3) := dk_182 0 246 (dk_at dksX0_bestHouse_1 3 rfl rfl)
theorem dX0_bestHouse_30 : decode cX0_bestHouse 30 = .ok (.istore 6, 2) := dk_54 6 (dk_at dksX0_bestHouse_1 6 rfl rfl)
theorem dX0_bestHouse_32 : decode cX0_bestHouse 32 = .ok (.iload_n 3, 1) := dk_29 (dk_at dksX0_bestHouse_1 8 rfl rfl)
theorem dX0_bestHouse_33 : decode cX0_bestHouse 33 = .ok (.bipush (-2), 2) := dk_16 254 (dk_at dksX0_bestHouse_1 9 rfl rfl)
theorem dX0_bestHouse_35 : decode cX0_bestHouse 35 = .ok (.if_icmp .eq 13, 3) := dk_159 0 13 (dk_at dksX0_bestHouse_1 11 rfl rfl)
theorem dX0_bestHouse_38 : decode cX0_bestHouse 38 = .ok (.iload 6, 2) := dk_21 6 (dk_at dksX0_bestHouse_1 14 rfl rfl)
theorem dX0_bestHouse_40 : decode cX0_bestHouse 40 = .ok (.iload 4, 2) := dk_21 4 (dk_at dksX0_bestHouse_1 16 rfl rfl)
theorem dX0_bestHouse_42 : decode cX0_bestHouse 42 = .ok (.if_icmp .lt 6, 3) := dk_161 0 6 (dk_at dksX0_bestHouse_1 18 rfl rfl)
theorem dX0_bestHouse_45 : decode cX0_bestHouse 45 = .ok (.goto 10, 3) := dk_167 0 10 (dk_at dksX0_bestHouse_1 21 rfl rfl)
theorem dX0_bestHouse_48 : decode cX0_bestHouse 48 = .ok (.iload 5, 2) := dk_21 5 (dk_at dksX0_bestHouse_2 0 rfl rfl)
theorem dX0_bestHouse_50 : decode cX0_bestHouse 50 = .ok (.istore_n 3, 1) := dk_62 (dk_at dksX0_bestHouse_2 2 rfl rfl)
theorem dX0_bestHouse_51 : decode cX0_bestHouse 51 = .ok (.iload 6, 2) := dk_21 6 (dk_at dksX0_bestHouse_2 3 rfl rfl)
theorem dX0_bestHouse_53 : decode cX0_bestHouse 53 = .ok (.istore 4, 2) := dk_54 4 (dk_at dksX0_bestHouse_2 5 rfl rfl)
theorem dX0_bestHouse_55 : decode cX0_bestHouse 55 = .ok (.iinc 5 1, 3) := dk_132 5 1 (dk_at dksX0_bestHouse_2 7 rfl rfl)
theorem dX0_bestHouse_58 : decode cX0_bestHouse 58 = .ok (.goto (-49), 3) := dk_167 255 207 (dk_at dksX0_bestHouse_2 10 rfl rfl)
theorem dX0_bestHouse_61 : decode cX0_bestHouse 61 = .ok (.iload_n 3, 1) := dk_29 (dk_at dksX0_bestHouse_2 13 rfl rfl)
theorem dX0_bestHouse_62 : decode cX0_bestHouse 62 = .ok (.ireturn, 1) := dk_172 (dk_at dksX0_bestHouse_2 14 rfl rfl)
def dkwX0_coinsFor_2 : List UInt8 := [21, 4, 182, 1, 50, 153, 0, 9, 21, 4, 62, 167, 0, 8, 21, 4, 4, 96, 61, 167, 255, 223, 28, 172]
abbrev dktX0_coinsFor_2 : List UInt8 := dkwX0_coinsFor_2 ++ []
def dkwX0_coinsFor_1 : List UInt8 := [16, 254, 172, 3, 61, 17, 39, 15, 62, 28, 29, 162, 0, 34, 28, 29, 96, 4, 124, 54, 4, 42, 27]
abbrev dktX0_coinsFor_1 : List UInt8 := dkwX0_coinsFor_1 ++ dktX0_coinsFor_2
def dkwX0_coinsFor_0 : List UInt8 := [42, 180, 0, 10, 27, 182, 0, 72, 154, 0, 5, 2, 172, 42, 27, 17, 39, 15, 182, 1, 50, 154, 0, 6]
abbrev dktX0_coinsFor_0 : List UInt8 := dkwX0_coinsFor_0 ++ dktX0_coinsFor_1
theorem dksX0_coinsFor_0 : cX0_coinsFor.data.toList.drop 0 = dktX0_coinsFor_0 := by decide +kernel
theorem dksX0_coinsFor_1 : cX0_coinsFor.data.toList.drop 24 = dktX0_coinsFor_1 := dk_seg dksX0_coinsFor_0 24 rfl rfl
theorem dksX0_coinsFor_2 : cX0_coinsFor.data.toList.drop 47 = dktX0_coinsFor_2 := dk_seg dksX0_coinsFor_1 23 rfl rfl
theorem dX0_coinsFor_0 : decode cX0_coinsFor 0 = .ok (.aload_n 0, 1) := dk_42 (dk_at dksX0_coinsFor_0 0 rfl rfl)
theorem dX0_coinsFor_1 : decode cX0_coinsFor 1 = .ok (.getfield 10, 3) := dk_180 0 10 (dk_at dksX0_coinsFor_0 1 rfl rfl)
theorem dX0_coinsFor_4 : decode cX0_coinsFor 4 = .ok (.iload_n 1, 1) := dk_27 (dk_at dksX0_coinsFor_0 4 rfl rfl)
theorem dX0_coinsFor_5 : decode cX0_coinsFor 5 = .ok (.invokevirtual 72, 3) := dk_182 0 72 (dk_at dksX0_coinsFor_0 5 rfl rfl)
theorem dX0_coinsFor_8 : decode cX0_coinsFor 8 = .ok (.ifCond .ne 5, 3) := dk_154 0 5 (dk_at dksX0_coinsFor_0 8 rfl rfl)
theorem dX0_coinsFor_11 : decode cX0_coinsFor 11 = .ok (.iconst (-1), 1) := dk_2 (dk_at dksX0_coinsFor_0 11 rfl rfl)
theorem dX0_coinsFor_12 : decode cX0_coinsFor 12 = .ok (.ireturn, 1) := dk_172 (dk_at dksX0_coinsFor_0 12 rfl rfl)
theorem dX0_coinsFor_13 : decode cX0_coinsFor 13 = .ok (.aload_n 0, 1) := dk_42 (dk_at dksX0_coinsFor_0 13 rfl rfl)
theorem dX0_coinsFor_14 : decode cX0_coinsFor 14 = .ok (.iload_n 1, 1) := dk_27 (dk_at dksX0_coinsFor_0 14 rfl rfl)
theorem dX0_coinsFor_15 : decode cX0_coinsFor 15 = .ok (.sipush 9999, 3) := dk_17 39 15 (dk_at dksX0_coinsFor_0 15 rfl rfl)
theorem dX0_coinsFor_18 : decode cX0_coinsFor 18 = .ok (.invokevirtual 306, 3) := dk_182 1 50 (dk_at dksX0_coinsFor_0 18 rfl rfl)
theorem dX0_coinsFor_21 : decode cX0_coinsFor 21 = .ok (.ifCond .ne 6, 3) := dk_154 0 6 (dk_at dksX0_coinsFor_0 21 rfl rfl)
theorem dX0_coinsFor_24 : decode cX0_coinsFor 24 = .ok (.bipush (-2), 2) := dk_16 254 (dk_at dksX0_coinsFor_1 0 rfl rfl)
theorem dX0_coinsFor_26 : decode cX0_coinsFor 26 = .ok (.ireturn, 1) := dk_172 (dk_at dksX0_coinsFor_1 2 rfl rfl)
theorem dX0_coinsFor_27 : decode cX0_coinsFor 27 = .ok (.iconst 0, 1) := dk_3 (dk_at dksX0_coinsFor_1 3 rfl rfl)
theorem dX0_coinsFor_28 : decode cX0_coinsFor 28 = .ok (.istore_n 2, 1) := dk_61 (dk_at dksX0_coinsFor_1 4 rfl rfl)
theorem dX0_coinsFor_29 : decode cX0_coinsFor 29 = .ok (.sipush 9999, 3) := dk_17 39 15 (dk_at dksX0_coinsFor_1 5 rfl rfl)
theorem dX0_coinsFor_32 : decode cX0_coinsFor 32 = .ok (.istore_n 3, 1) := dk_62 (dk_at dksX0_coinsFor_1 8 rfl rfl)
theorem dX0_coinsFor_33 : decode cX0_coinsFor 33 = .ok (.iload_n 2, 1) := dk_28 (dk_at dksX0_coinsFor_1 9 rfl rfl)
theorem dX0_coinsFor_34 : decode cX0_coinsFor 34 = .ok (.iload_n 3, 1) := dk_29 (dk_at dksX0_coinsFor_1 10 rfl rfl)
theorem dX0_coinsFor_35 : decode cX0_coinsFor 35 = .ok (.if_icmp .ge 34, 3) := dk_162 0 34 (dk_at dksX0_coinsFor_1 11 rfl rfl)
theorem dX0_coinsFor_38 : decode cX0_coinsFor 38 = .ok (.iload_n 2, 1) := dk_28 (dk_at dksX0_coinsFor_1 14 rfl rfl)
theorem dX0_coinsFor_39 : decode cX0_coinsFor 39 = .ok (.iload_n 3, 1) := dk_29 (dk_at dksX0_coinsFor_1 15 rfl rfl)
theorem dX0_coinsFor_40 : decode cX0_coinsFor 40 = .ok (.iadd, 1) := dk_96 (dk_at dksX0_coinsFor_1 16 rfl rfl)
theorem dX0_coinsFor_41 : decode cX0_coinsFor 41 = .ok (.iconst 1, 1) := dk_4 (dk_at dksX0_coinsFor_1 17 rfl rfl)
theorem dX0_coinsFor_42 : decode cX0_coinsFor 42 = .ok (.iushr, 1) := dk_124 (dk_at dksX0_coinsFor_1 18 rfl rfl)
theorem dX0_coinsFor_43 : decode cX0_coinsFor 43 = .ok (.istore 4, 2) := dk_54 4 (dk_at dksX0_coinsFor_1 19 rfl rfl)
theorem dX0_coinsFor_45 : decode cX0_coinsFor 45 = .ok (.aload_n 0, 1) := dk_42 (dk_at dksX0_coinsFor_1 21 rfl rfl)
theorem dX0_coinsFor_46 : decode cX0_coinsFor 46 = .ok (.iload_n 1, 1) := dk_27 (dk_at dksX0_coinsFor_1 22 rfl rfl)
theorem dX0_coinsFor_47 : decode cX0_coinsFor 47 = .ok (.iload 4, 2) := dk_21 4 (dk_at dksX0_coinsFor_2 0 rfl rfl)
theorem dX0_coinsFor_49 : decode cX0_coinsFor 49 = .ok (.invokevirtual 306, 3) := dk_182 1 50 (dk_at dksX0_coinsFor_2 2 rfl rfl)
theorem dX0_coinsFor_52 : decode cX0_coinsFor 52 = .ok (.ifCond .eq 9, 3) := dk_153 0 9 (dk_at dksX0_coinsFor_2 5 rfl rfl)
theorem dX0_coinsFor_55 : decode cX0_coinsFor 55 = .ok (.iload 4, 2) := dk_21 4 (dk_at dksX0_coinsFor_2 8 rfl rfl)
theorem dX0_coinsFor_57 : decode cX0_coinsFor 57 = .ok (.istore_n 3, 1) := dk_62 (dk_at dksX0_coinsFor_2 10 rfl rfl)
theorem dX0_coinsFor_58 : decode cX0_coinsFor 58 = .ok (.goto 8, 3) := dk_167 0 8 (dk_at dksX0_coinsFor_2 11 rfl rfl)
theorem dX0_coinsFor_61 : decode cX0_coinsFor 61 = .ok (.iload 4, 2) := dk_21 4 (dk_at dksX0_coinsFor_2 14 rfl rfl)
theorem dX0_coinsFor_63 : decode cX0_coinsFor 63 = .ok (.iconst 1, 1) := dk_4 (dk_at dksX0_coinsFor_2 16 rfl rfl)
theorem dX0_coinsFor_64 : decode cX0_coinsFor 64 = .ok (.iadd, 1) := dk_96 (dk_at dksX0_coinsFor_2 17 rfl rfl)
theorem dX0_coinsFor_65 : decode cX0_coinsFor 65 = .ok (.istore_n 2, 1) := dk_61 (dk_at dksX0_coinsFor_2 18 rfl rfl)
theorem dX0_coinsFor_66 : decode cX0_coinsFor 66 = .ok (.goto (-33), 3) := dk_167 255 223 (dk_at dksX0_coinsFor_2 19 rfl rfl)
theorem dX0_coinsFor_69 : decode cX0_coinsFor 69 = .ok (.iload_n 2, 1) := dk_28 (dk_at dksX0_coinsFor_2 22 rfl rfl)
theorem dX0_coinsFor_70 : decode cX0_coinsFor 70 = .ok (.ireturn, 1) := dk_172 (dk_at dksX0_coinsFor_2 23 rfl rfl)
def dkwX0_isSafe_0 : List UInt8 := [42, 42, 180, 0, 10, 27, 28, 182, 1, 42, 180, 0, 145, 154, 0, 7, 4, 167, 0, 4, 3, 172]
abbrev dktX0_isSafe_0 : List UInt8 := dkwX0_isSafe_0 ++ []
theorem dksX0_isSafe_0 : cX0_isSafe.data.toList.drop 0 = dktX0_isSafe_0 := by decide +kernel
theorem dX0_isSafe_0 : decode cX0_isSafe 0 = .ok (.aload_n 0, 1) := dk_42 (dk_at dksX0_isSafe_0 0 rfl rfl)
theorem dX0_isSafe_1 : decode cX0_isSafe 1 = .ok (.aload_n 0, 1) := dk_42 (dk_at dksX0_isSafe_0 1 rfl rfl)
theorem dX0_isSafe_2 : decode cX0_isSafe 2 = .ok (.getfield 10, 3) := dk_180 0 10 (dk_at dksX0_isSafe_0 2 rfl rfl)
theorem dX0_isSafe_5 : decode cX0_isSafe 5 = .ok (.iload_n 1, 1) := dk_27 (dk_at dksX0_isSafe_0 5 rfl rfl)
theorem dX0_isSafe_6 : decode cX0_isSafe 6 = .ok (.iload_n 2, 1) := dk_28 (dk_at dksX0_isSafe_0 6 rfl rfl)
theorem dX0_isSafe_7 : decode cX0_isSafe 7 = .ok (.invokevirtual 298, 3) := dk_182 1 42 (dk_at dksX0_isSafe_0 7 rfl rfl)
theorem dX0_isSafe_10 : decode cX0_isSafe 10 = .ok (.getfield 145, 3) := dk_180 0 145 (dk_at dksX0_isSafe_0 10 rfl rfl)
theorem dX0_isSafe_13 : decode cX0_isSafe 13 = .ok (.ifCond .ne 7, 3) := dk_154 0 7 (dk_at dksX0_isSafe_0 13 rfl rfl)
theorem dX0_isSafe_16 : decode cX0_isSafe 16 = .ok (.iconst 1, 1) := dk_4 (dk_at dksX0_isSafe_0 16 rfl rfl)
theorem dX0_isSafe_17 : decode cX0_isSafe 17 = .ok (.goto 4, 3) := dk_167 0 4 (dk_at dksX0_isSafe_0 17 rfl rfl)
theorem dX0_isSafe_20 : decode cX0_isSafe 20 = .ok (.iconst 0, 1) := dk_3 (dk_at dksX0_isSafe_0 20 rfl rfl)
theorem dX0_isSafe_21 : decode cX0_isSafe 21 = .ok (.ireturn, 1) := dk_172 (dk_at dksX0_isSafe_0 21 rfl rfl)
def dkwX0_aid_6 : List UInt8 := [160, 0, 16, 25, 4, 25, 4, 182, 0, 141, 182, 0, 246, 167, 0, 7, 25, 5, 29, 46, 172]
abbrev dktX0_aid_6 : List UInt8 := dkwX0_aid_6 ++ []
def dkwX0_aid_5 : List UInt8 := [96, 79, 25, 4, 180, 0, 67, 21, 7, 50, 3, 92, 46, 28, 96, 79, 132, 6, 1, 167, 255, 215, 29, 2]
abbrev dktX0_aid_5 : List UInt8 := dkwX0_aid_5 ++ dktX0_aid_6
def dkwX0_aid_4 : List UInt8 := [54, 6, 21, 6, 27, 162, 0, 41, 42, 25, 4, 28, 182, 1, 46, 54, 7, 25, 5, 21, 7, 92, 46, 4]
abbrev dktX0_aid_4 : List UInt8 := dkwX0_aid_4 ++ dktX0_aid_5
def dkwX0_aid_3 : List UInt8 := [16, 254, 167, 0, 4, 2, 172, 42, 180, 0, 10, 182, 0, 35, 58, 4, 16, 6, 188, 10, 58, 5, 3]
abbrev dktX0_aid_3 : List UInt8 := dkwX0_aid_3 ++ dktX0_aid_4
def dkwX0_aid_2 : List UInt8 := [184, 0, 45, 154, 0, 5, 2, 172, 42, 180, 0, 10, 180, 0, 64, 154, 0, 15, 29, 2, 160, 0, 8]
abbrev dktX0_aid_2 : List UInt8 := dkwX0_aid_2 ++ dktX0_aid_3
def dkwX0_aid_1 : List UInt8 := [29, 2, 159, 0, 28, 29, 133, 9, 4, 42, 180, 0, 10, 180, 0, 64, 184, 1, 55, 4, 100, 133]
abbrev dktX0_aid_1 : List UInt8 := dkwX0_aid_1 ++ dktX0_aid_2
def dkwX0_aid_0 : List UInt8 := [27, 133, 9, 20, 1, 53, 184, 0, 45, 153, 0, 43, 28, 133, 10, 20, 0, 90, 184, 0, 45, 153, 0, 31]
abbrev dktX0_aid_0 : List UInt8 := dkwX0_aid_0 ++ dktX0_aid_1
theorem dksX0_aid_0 : cX0_aid.data.toList.drop 0 = dktX0_aid_0 := by decide +kernel
theorem dksX0_aid_1 : cX0_aid.data.toList.drop 24 = dktX0_aid_1 := dk_seg dksX0_aid_0 24 rfl rfl
theorem dksX0_aid_2 : cX0_aid.data.toList.drop 46 = dktX0_aid_2 := dk_seg dksX0_aid_1 22 rfl rfl
theorem dksX0_aid_3 : cX0_aid.data.toList.drop 69 = dktX0_aid_3 := dk_seg dksX0_aid_2 23 rfl rfl
theorem dksX0_aid_4 : cX0_aid.data.toList.drop 92 = dktX0_aid_4 := dk_seg dksX0_aid_3 23 rfl rfl
theorem dksX0_aid_5 : cX0_aid.data.toList.drop 116 = dktX0_aid_5 := dk_seg dksX0_aid_4 24 rfl rfl
theorem dksX0_aid_6 : cX0_aid.data.toList.drop 140 = dktX0_aid_6 := dk_seg dksX0_aid_5 24 rfl rfl
theorem dX0_aid_0 : decode cX0_aid 0 = .ok (.iload_n 1, 1) := dk_27 (dk_at dksX0_aid_0 0 rfl rfl)
theorem dX0_aid_1 : decode cX0_aid 1 = .ok (.i2l, 1) := dk_133 (dk_at dksX0_aid_0 1 rfl rfl)
theorem dX0_aid_2 : decode cX0_aid 2 = .ok (.lconst 0, 1) := dk_9 (dk_at dksX0_aid_0 2 rfl rfl)
theorem dX0_aid_3 : decode cX0_aid 3 = .ok (.ldc2_w 309, 3) := dk_20 1 53 (dk_at dksX0_aid_0 3 rfl rfl)
theorem dX0_aid_6 : decode cX0_aid 6 = .ok (.invokestatic 45, 3) := dk_184 0 45 (dk_at dksX0_aid_0 6 rfl rfl)
theorem dX0_aid_9 : decode cX0_aid 9 = .ok (.ifCond .eq 43, 3) := dk_153 0 43 (dk_at dksX0_aid_0 9 rfl rfl)
theorem dX0_aid_12 : decode cX0_aid 12 = .ok (.iload_n 2, 1) := dk_28 (dk_at dksX0_aid_0 12 rfl rfl)
theorem dX0_aid_13 : decode cX0_aid 13 = .ok (.i2l, 1) := dk_133 (dk_at dksX0_aid_0 13 rfl rfl)
theorem dX0_aid_14 : decode cX0_aid 14 = .ok (.lconst 1, 1) := dk_10 (dk_at dksX0_aid_0 14 rfl rfl)
theorem dX0_aid_15 : decode cX0_aid 15 = .ok (.ldc2_w 90, 3) := dk_20 0 90 (dk_at dksX0_aid_0 15 rfl rfl)
theorem dX0_aid_18 : decode cX0_aid 18 = .ok (.invokestatic 45, 3) := dk_184 0 45 (dk_at dksX0_aid_0 18 rfl rfl)
theorem dX0_aid_21 : decode cX0_aid 21 = .ok (.ifCond .eq 31, 3) := dk_153 0 31 (dk_at dksX0_aid_0 21 rfl rfl)
theorem dX0_aid_24 : decode cX0_aid 24 = .ok (.iload_n 3, 1) := dk_29 (dk_at dksX0_aid_1 0 rfl rfl)
theorem dX0_aid_25 : decode cX0_aid 25 = .ok (.iconst (-1), 1) := dk_2 (dk_at dksX0_aid_1 1 rfl rfl)
theorem dX0_aid_26 : decode cX0_aid 26 = .ok (.if_icmp .eq 28, 3) := dk_159 0 28 (dk_at dksX0_aid_1 2 rfl rfl)
theorem dX0_aid_29 : decode cX0_aid 29 = .ok (.iload_n 3, 1) := dk_29 (dk_at dksX0_aid_1 5 rfl rfl)
theorem dX0_aid_30 : decode cX0_aid 30 = .ok (.i2l, 1) := dk_133 (dk_at dksX0_aid_1 6 rfl rfl)
theorem dX0_aid_31 : decode cX0_aid 31 = .ok (.lconst 0, 1) := dk_9 (dk_at dksX0_aid_1 7 rfl rfl)
theorem dX0_aid_32 : decode cX0_aid 32 = .ok (.iconst 1, 1) := dk_4 (dk_at dksX0_aid_1 8 rfl rfl)
theorem dX0_aid_33 : decode cX0_aid 33 = .ok (.aload_n 0, 1) := dk_42 (dk_at dksX0_aid_1 9 rfl rfl)
theorem dX0_aid_34 : decode cX0_aid 34 = .ok (.getfield 10, 3) := dk_180 0 10 (dk_at dksX0_aid_1 10 rfl rfl)
theorem dX0_aid_37 : decode cX0_aid 37 = .ok (.getfield 64, 3) := dk_180 0 64 (dk_at dksX0_aid_1 13 rfl rfl)
theorem dX0_aid_40 : decode cX0_aid 40 = .ok (.invokestatic 311, 3) := dk_184 1 55 (dk_at dksX0_aid_1 16 rfl rfl)
theorem dX0_aid_43 : decode cX0_aid 43 = .ok (.iconst 1, 1) := dk_4 (dk_at dksX0_aid_1 19 rfl rfl)
theorem dX0_aid_44 : decode cX0_aid 44 = .ok (.isub, 1) := dk_100 (dk_at dksX0_aid_1 20 rfl rfl)
theorem dX0_aid_45 : decode cX0_aid 45 = .ok (.i2l, 1) := dk_133 (dk_at dksX0_aid_1 21 rfl rfl)
theorem dX0_aid_46 : decode cX0_aid 46 = .ok (.invokestatic 45, 3) := dk_184 0 45 (dk_at dksX0_aid_2 0 rfl rfl)
theorem dX0_aid_49 : decode cX0_aid 49 = .ok (.ifCond .ne 5, 3) := dk_154 0 5 (dk_at dksX0_aid_2 3 rfl rfl)
theorem dX0_aid_52 : decode cX0_aid 52 = .ok (.iconst (-1), 1) := dk_2 (dk_at dksX0_aid_2 6 rfl rfl)
theorem dX0_aid_53 : decode cX0_aid 53 = .ok (.ireturn, 1) := dk_172 (dk_at dksX0_aid_2 7 rfl rfl)
theorem dX0_aid_54 : decode cX0_aid 54 = .ok (.aload_n 0, 1) := dk_42 (dk_at dksX0_aid_2 8 rfl rfl)
theorem dX0_aid_55 : decode cX0_aid 55 = .ok (.getfield 10, 3) := dk_180 0 10 (dk_at dksX0_aid_2 9 rfl rfl)
theorem dX0_aid_58 : decode cX0_aid 58 = .ok (.getfield 64, 3) := dk_180 0 64 (dk_at dksX0_aid_2 12 rfl rfl)
theorem dX0_aid_61 : decode cX0_aid 61 = .ok (.ifCond .ne 15, 3) := dk_154 0 15 (dk_at dksX0_aid_2 15 rfl rfl)
theorem dX0_aid_64 : decode cX0_aid 64 = .ok (.iload_n 3, 1) := dk_29 (dk_at dksX0_aid_2 18 rfl rfl)
theorem dX0_aid_65 : decode cX0_aid 65 = .ok (.iconst (-1), 1) := dk_2 (dk_at dksX0_aid_2 19 rfl rfl)
theorem dX0_aid_66 : decode cX0_aid 66 = .ok (.if_icmp .ne 8, 3) := dk_160 0 8 (dk_at dksX0_aid_2 20 rfl rfl)
theorem dX0_aid_69 : decode cX0_aid 69 = .ok (.bipush (-2), 2) := dk_16 254 (dk_at dksX0_aid_3 0 rfl rfl)
theorem dX0_aid_71 : decode cX0_aid 71 = .ok (.goto 4, 3) := dk_167 0 4 (dk_at dksX0_aid_3 2 rfl rfl)
theorem dX0_aid_74 : decode cX0_aid 74 = .ok (.iconst (-1), 1) := dk_2 (dk_at dksX0_aid_3 5 rfl rfl)
theorem dX0_aid_75 : decode cX0_aid 75 = .ok (.ireturn, 1) := dk_172 (dk_at dksX0_aid_3 6 rfl rfl)
theorem dX0_aid_76 : decode cX0_aid 76 = .ok (.aload_n 0, 1) := dk_42 (dk_at dksX0_aid_3 7 rfl rfl)
theorem dX0_aid_77 : decode cX0_aid 77 = .ok (.getfield 10, 3) := dk_180 0 10 (dk_at dksX0_aid_3 8 rfl rfl)
theorem dX0_aid_80 : decode cX0_aid 80 = .ok (.invokevirtual 35, 3) := dk_182 0 35 (dk_at dksX0_aid_3 11 rfl rfl)
theorem dX0_aid_83 : decode cX0_aid 83 = .ok (.astore 4, 2) := dk_58 4 (dk_at dksX0_aid_3 14 rfl rfl)
theorem dX0_aid_85 : decode cX0_aid 85 = .ok (.bipush 6, 2) := dk_16 6 (dk_at dksX0_aid_3 16 rfl rfl)
theorem dX0_aid_87 : decode cX0_aid 87 = .ok (.newarray .int, 2) := dk_188_10 (dk_at dksX0_aid_3 18 rfl rfl)
theorem dX0_aid_89 : decode cX0_aid 89 = .ok (.astore 5, 2) := dk_58 5 (dk_at dksX0_aid_3 20 rfl rfl)
theorem dX0_aid_91 : decode cX0_aid 91 = .ok (.iconst 0, 1) := dk_3 (dk_at dksX0_aid_3 22 rfl rfl)
theorem dX0_aid_92 : decode cX0_aid 92 = .ok (.istore 6, 2) := dk_54 6 (dk_at dksX0_aid_4 0 rfl rfl)
theorem dX0_aid_94 : decode cX0_aid 94 = .ok (.iload 6, 2) := dk_21 6 (dk_at dksX0_aid_4 2 rfl rfl)
theorem dX0_aid_96 : decode cX0_aid 96 = .ok (.iload_n 1, 1) := dk_27 (dk_at dksX0_aid_4 4 rfl rfl)
theorem dX0_aid_97 : decode cX0_aid 97 = .ok (.if_icmp .ge 41, 3) := dk_162 0 41 (dk_at dksX0_aid_4 5 rfl rfl)
theorem dX0_aid_100 : decode cX0_aid 100 = .ok (.aload_n 0, 1) := dk_42 (dk_at dksX0_aid_4 8 rfl rfl)
theorem dX0_aid_101 : decode cX0_aid 101 = .ok (.aload 4, 2) := dk_25 4 (dk_at dksX0_aid_4 9 rfl rfl)
theorem dX0_aid_103 : decode cX0_aid 103 = .ok (.iload_n 2, 1) := dk_28 (dk_at dksX0_aid_4 11 rfl rfl)
theorem dX0_aid_104 : decode cX0_aid 104 = .ok (.invokevirtual 302, 3) := dk_182 1 46 (dk_at dksX0_aid_4 12 rfl rfl)
theorem dX0_aid_107 : decode cX0_aid 107 = .ok (.istore 7, 2) := dk_54 7 (dk_at dksX0_aid_4 15 rfl rfl)
theorem dX0_aid_109 : decode cX0_aid 109 = .ok (.aload 5, 2) := dk_25 5 (dk_at dksX0_aid_4 17 rfl rfl)
theorem dX0_aid_111 : decode cX0_aid 111 = .ok (.iload 7, 2) := dk_21 7 (dk_at dksX0_aid_4 19 rfl rfl)
theorem dX0_aid_113 : decode cX0_aid 113 = .ok (.dup2, 1) := dk_92 (dk_at dksX0_aid_4 21 rfl rfl)
theorem dX0_aid_114 : decode cX0_aid 114 = .ok (.iaload, 1) := dk_46 (dk_at dksX0_aid_4 22 rfl rfl)
theorem dX0_aid_115 : decode cX0_aid 115 = .ok (.iconst 1, 1) := dk_4 (dk_at dksX0_aid_4 23 rfl rfl)
theorem dX0_aid_116 : decode cX0_aid 116 = .ok (.iadd, 1) := dk_96 (dk_at dksX0_aid_5 0 rfl rfl)
theorem dX0_aid_117 : decode cX0_aid 117 = .ok (.iastore, 1) := dk_79 (dk_at dksX0_aid_5 1 rfl rfl)
theorem dX0_aid_118 : decode cX0_aid 118 = .ok (.aload 4, 2) := dk_25 4 (dk_at dksX0_aid_5 2 rfl rfl)
theorem dX0_aid_120 : decode cX0_aid 120 = .ok (.getfield 67, 3) := dk_180 0 67 (dk_at dksX0_aid_5 4 rfl rfl)
theorem dX0_aid_123 : decode cX0_aid 123 = .ok (.iload 7, 2) := dk_21 7 (dk_at dksX0_aid_5 7 rfl rfl)
theorem dX0_aid_125 : decode cX0_aid 125 = .ok (.aaload, 1) := dk_50 (dk_at dksX0_aid_5 9 rfl rfl)
theorem dX0_aid_126 : decode cX0_aid 126 = .ok (.iconst 0, 1) := dk_3 (dk_at dksX0_aid_5 10 rfl rfl)
theorem dX0_aid_127 : decode cX0_aid 127 = .ok (.dup2, 1) := dk_92 (dk_at dksX0_aid_5 11 rfl rfl)
theorem dX0_aid_128 : decode cX0_aid 128 = .ok (.iaload, 1) := dk_46 (dk_at dksX0_aid_5 12 rfl rfl)
theorem dX0_aid_129 : decode cX0_aid 129 = .ok (.iload_n 2, 1) := dk_28 (dk_at dksX0_aid_5 13 rfl rfl)
theorem dX0_aid_130 : decode cX0_aid 130 = .ok (.iadd, 1) := dk_96 (dk_at dksX0_aid_5 14 rfl rfl)
theorem dX0_aid_131 : decode cX0_aid 131 = .ok (.iastore, 1) := dk_79 (dk_at dksX0_aid_5 15 rfl rfl)
theorem dX0_aid_132 : decode cX0_aid 132 = .ok (.iinc 6 1, 3) := dk_132 6 1 (dk_at dksX0_aid_5 16 rfl rfl)
theorem dX0_aid_135 : decode cX0_aid 135 = .ok (.goto (-41), 3) := dk_167 255 215 (dk_at dksX0_aid_5 19 rfl rfl)
theorem dX0_aid_138 : decode cX0_aid 138 = .ok (.iload_n 3, 1) := dk_29 (dk_at dksX0_aid_5 22 rfl rfl)
theorem dX0_aid_139 : decode cX0_aid 139 = .ok (.iconst (-1), 1) := dk_2 (dk_at dksX0_aid_5 23 rfl rfl)
theorem dX0_aid_140 : decode cX0_aid 140 = .ok (.if_icmp .ne 16, 3) := dk_160 0 16 (dk_at dksX0_aid_6 0 rfl rfl)
theorem dX0_aid_143 : decode cX0_aid 143 = .ok (.aload 4, 2) := dk_25 4 (dk_at dksX0_aid_6 3 rfl rfl)
theorem dX0_aid_145 : decode cX0_aid 145 = .ok (.aload 4, 2) := dk_25 4 (dk_at dksX0_aid_6 5 rfl rfl)
theorem dX0_aid_147 : decode cX0_aid 147 = .ok (.invokevirtual 141, 3) := dk_182 0 141 (dk_at dksX0_aid_6 7 rfl rfl)
theorem dX0_aid_150 : decode cX0_aid 150 = .ok (.invokevirtual 246, 3) := dk_182 0 246 (dk_at dksX0_aid_6 10 rfl rfl)
theorem dX0_aid_153 : decode cX0_aid 153 = .ok (.goto 7, 3) := dk_167 0 7 (dk_at dksX0_aid_6 13 rfl rfl)
theorem dX0_aid_156 : decode cX0_aid 156 = .ok (.aload 5, 2) := dk_25 5 (dk_at dksX0_aid_6 16 rfl rfl)
theorem dX0_aid_158 : decode cX0_aid 158 = .ok (.iload_n 3, 1) := dk_29 (dk_at dksX0_aid_6 18 rfl rfl)
theorem dX0_aid_159 : decode cX0_aid 159 = .ok (.iaload, 1) := dk_46 (dk_at dksX0_aid_6 19 rfl rfl)
theorem dX0_aid_160 : decode cX0_aid 160 = .ok (.ireturn, 1) := dk_172 (dk_at dksX0_aid_6 20 rfl rfl)
def dkwX0_bestAid_5 : List UInt8 := [172]
abbrev dktX0_bestAid_5 : List UInt8 := dkwX0_bestAid_5 ++ []
def dkwX0_bestAid_4 : List UInt8 := [3, 27, 28, 182, 1, 68, 29, 2, 160, 0, 10, 42, 180, 1, 61, 167, 0, 9, 42, 180, 1, 58, 29, 46]
abbrev dktX0_bestAid_4 : List UInt8 := dkwX0_bestAid_4 ++ dktX0_bestAid_5
def dkwX0_bestAid_3 : List UInt8 := [16, 254, 167, 0, 4, 2, 172, 42, 1, 181, 1, 58, 42, 42, 180, 0, 10, 182, 0, 35, 16, 6, 188, 10]
abbrev dktX0_bestAid_3 : List UInt8 := dkwX0_bestAid_3 ++ dktX0_bestAid_4
def dkwX0_bestAid_2 : List UInt8 := [184, 0, 45, 154, 0, 5, 2, 172, 42, 180, 0, 10, 180, 0, 64, 154, 0, 15, 29, 2, 160, 0, 8]
abbrev dktX0_bestAid_2 : List UInt8 := dkwX0_bestAid_2 ++ dktX0_bestAid_3
def dkwX0_bestAid_1 : List UInt8 := [29, 2, 159, 0, 28, 29, 133, 9, 4, 42, 180, 0, 10, 180, 0, 64, 184, 1, 55, 4, 100, 133]
abbrev dktX0_bestAid_1 : List UInt8 := dkwX0_bestAid_1 ++ dktX0_bestAid_2
def dkwX0_bestAid_0 : List UInt8 := [27, 133, 9, 20, 0, 76, 184, 0, 45, 153, 0, 43, 28, 133, 10, 20, 0, 90, 184, 0, 45, 153, 0, 31]
abbrev dktX0_bestAid_0 : List UInt8 := dkwX0_bestAid_0 ++ dktX0_bestAid_1
theorem dksX0_bestAid_0 : cX0_bestAid.data.toList.drop 0 = dktX0_bestAid_0 := by decide +kernel
theorem dksX0_bestAid_1 : cX0_bestAid.data.toList.drop 24 = dktX0_bestAid_1 := dk_seg dksX0_bestAid_0 24 rfl rfl
theorem dksX0_bestAid_2 : cX0_bestAid.data.toList.drop 46 = dktX0_bestAid_2 := dk_seg dksX0_bestAid_1 22 rfl rfl
theorem dksX0_bestAid_3 : cX0_bestAid.data.toList.drop 69 = dktX0_bestAid_3 := dk_seg dksX0_bestAid_2 23 rfl rfl
theorem dksX0_bestAid_4 : cX0_bestAid.data.toList.drop 93 = dktX0_bestAid_4 := dk_seg dksX0_bestAid_3 24 rfl rfl
theorem dksX0_bestAid_5 : cX0_bestAid.data.toList.drop 117 = dktX0_bestAid_5 := dk_seg dksX0_bestAid_4 24 rfl rfl
theorem dX0_bestAid_0 : decode cX0_bestAid 0 = .ok (.iload_n 1, 1) := dk_27 (dk_at dksX0_bestAid_0 0 rfl rfl)
theorem dX0_bestAid_1 : decode cX0_bestAid 1 = .ok (.i2l, 1) := dk_133 (dk_at dksX0_bestAid_0 1 rfl rfl)
theorem dX0_bestAid_2 : decode cX0_bestAid 2 = .ok (.lconst 0, 1) := dk_9 (dk_at dksX0_bestAid_0 2 rfl rfl)
theorem dX0_bestAid_3 : decode cX0_bestAid 3 = .ok (.ldc2_w 76, 3) := dk_20 0 76 (dk_at dksX0_bestAid_0 3 rfl rfl)
theorem dX0_bestAid_6 : decode cX0_bestAid 6 = .ok (.invokestatic 45, 3) := dk_184 0 45 (dk_at dksX0_bestAid_0 6 rfl rfl)
theorem dX0_bestAid_9 : decode cX0_bestAid 9 = .ok (.ifCond .eq 43, 3) := dk_153 0 43 (dk_at dksX0_bestAid_0 9 rfl rfl)
theorem dX0_bestAid_12 : decode cX0_bestAid 12 = .ok (.iload_n 2, 1) := dk_28 (dk_at dksX0_bestAid_0 12 rfl rfl)
theorem dX0_bestAid_13 : decode cX0_bestAid 13 = .ok (.i2l, 1) := dk_133 (dk_at dksX0_bestAid_0 13 rfl rfl)
theorem dX0_bestAid_14 : decode cX0_bestAid 14 = .ok (.lconst 1, 1) := dk_10 (dk_at dksX0_bestAid_0 14 rfl rfl)
theorem dX0_bestAid_15 : decode cX0_bestAid 15 = .ok (.ldc2_w 90, 3) := dk_20 0 90 (dk_at dksX0_bestAid_0 15 rfl rfl)
theorem dX0_bestAid_18 : decode cX0_bestAid 18 = .ok (.invokestatic 45, 3) := dk_184 0 45 (dk_at dksX0_bestAid_0 18 rfl rfl)
theorem dX0_bestAid_21 : decode cX0_bestAid 21 = .ok (.ifCond .eq 31, 3) := dk_153 0 31 (dk_at dksX0_bestAid_0 21 rfl rfl)
theorem dX0_bestAid_24 : decode cX0_bestAid 24 = .ok (.iload_n 3, 1) := dk_29 (dk_at dksX0_bestAid_1 0 rfl rfl)
theorem dX0_bestAid_25 : decode cX0_bestAid 25 = .ok (.iconst (-1), 1) := dk_2 (dk_at dksX0_bestAid_1 1 rfl rfl)
theorem dX0_bestAid_26 : decode cX0_bestAid 26 = .ok (.if_icmp .eq 28, 3) := dk_159 0 28 (dk_at dksX0_bestAid_1 2 rfl rfl)
theorem dX0_bestAid_29 : decode cX0_bestAid 29 = .ok (.iload_n 3, 1) := dk_29 (dk_at dksX0_bestAid_1 5 rfl rfl)
theorem dX0_bestAid_30 : decode cX0_bestAid 30 = .ok (.i2l, 1) := dk_133 (dk_at dksX0_bestAid_1 6 rfl rfl)
theorem dX0_bestAid_31 : decode cX0_bestAid 31 = .ok (.lconst 0, 1) := dk_9 (dk_at dksX0_bestAid_1 7 rfl rfl)
theorem dX0_bestAid_32 : decode cX0_bestAid 32 = .ok (.iconst 1, 1) := dk_4 (dk_at dksX0_bestAid_1 8 rfl rfl)
theorem dX0_bestAid_33 : decode cX0_bestAid 33 = .ok (.aload_n 0, 1) := dk_42 (dk_at dksX0_bestAid_1 9 rfl rfl)
theorem dX0_bestAid_34 : decode cX0_bestAid 34 = .ok (.getfield 10, 3) := dk_180 0 10 (dk_at dksX0_bestAid_1 10 rfl rfl)
theorem dX0_bestAid_37 : decode cX0_bestAid 37 = .ok (.getfield 64, 3) := dk_180 0 64 (dk_at dksX0_bestAid_1 13 rfl rfl)
theorem dX0_bestAid_40 : decode cX0_bestAid 40 = .ok (.invokestatic 311, 3) := dk_184 1 55 (dk_at dksX0_bestAid_1 16 rfl rfl)
theorem dX0_bestAid_43 : decode cX0_bestAid 43 = .ok (.iconst 1, 1) := dk_4 (dk_at dksX0_bestAid_1 19 rfl rfl)
theorem dX0_bestAid_44 : decode cX0_bestAid 44 = .ok (.isub, 1) := dk_100 (dk_at dksX0_bestAid_1 20 rfl rfl)
theorem dX0_bestAid_45 : decode cX0_bestAid 45 = .ok (.i2l, 1) := dk_133 (dk_at dksX0_bestAid_1 21 rfl rfl)
theorem dX0_bestAid_46 : decode cX0_bestAid 46 = .ok (.invokestatic 45, 3) := dk_184 0 45 (dk_at dksX0_bestAid_2 0 rfl rfl)
theorem dX0_bestAid_49 : decode cX0_bestAid 49 = .ok (.ifCond .ne 5, 3) := dk_154 0 5 (dk_at dksX0_bestAid_2 3 rfl rfl)
theorem dX0_bestAid_52 : decode cX0_bestAid 52 = .ok (.iconst (-1), 1) := dk_2 (dk_at dksX0_bestAid_2 6 rfl rfl)
theorem dX0_bestAid_53 : decode cX0_bestAid 53 = .ok (.ireturn, 1) := dk_172 (dk_at dksX0_bestAid_2 7 rfl rfl)
theorem dX0_bestAid_54 : decode cX0_bestAid 54 = .ok (.aload_n 0, 1) := dk_42 (dk_at dksX0_bestAid_2 8 rfl rfl)
theorem dX0_bestAid_55 : decode cX0_bestAid 55 = .ok (.getfield 10, 3) := dk_180 0 10 (dk_at dksX0_bestAid_2 9 rfl rfl)
theorem dX0_bestAid_58 : decode cX0_bestAid 58 = .ok (.getfield 64, 3) := dk_180 0 64 (dk_at dksX0_bestAid_2 12 rfl rfl)
theorem dX0_bestAid_61 : decode cX0_bestAid 61 = .ok (.ifCond .ne 15, 3) := dk_154 0 15 (dk_at dksX0_bestAid_2 15 rfl rfl)
theorem dX0_bestAid_64 : decode cX0_bestAid 64 = .ok (.iload_n 3, 1) := dk_29 (dk_at dksX0_bestAid_2 18 rfl rfl)
theorem dX0_bestAid_65 : decode cX0_bestAid 65 = .ok (.iconst (-1), 1) := dk_2 (dk_at dksX0_bestAid_2 19 rfl rfl)
theorem dX0_bestAid_66 : decode cX0_bestAid 66 = .ok (.if_icmp .ne 8, 3) := dk_160 0 8 (dk_at dksX0_bestAid_2 20 rfl rfl)
theorem dX0_bestAid_69 : decode cX0_bestAid 69 = .ok (.bipush (-2), 2) := dk_16 254 (dk_at dksX0_bestAid_3 0 rfl rfl)
theorem dX0_bestAid_71 : decode cX0_bestAid 71 = .ok (.goto 4, 3) := dk_167 0 4 (dk_at dksX0_bestAid_3 2 rfl rfl)
theorem dX0_bestAid_74 : decode cX0_bestAid 74 = .ok (.iconst (-1), 1) := dk_2 (dk_at dksX0_bestAid_3 5 rfl rfl)
theorem dX0_bestAid_75 : decode cX0_bestAid 75 = .ok (.ireturn, 1) := dk_172 (dk_at dksX0_bestAid_3 6 rfl rfl)
theorem dX0_bestAid_76 : decode cX0_bestAid 76 = .ok (.aload_n 0, 1) := dk_42 (dk_at dksX0_bestAid_3 7 rfl rfl)
theorem dX0_bestAid_77 : decode cX0_bestAid 77 = .ok (.aconst_null, 1) := dk_1 (dk_at dksX0_bestAid_3 8 rfl rfl)
theorem dX0_bestAid_78 : decode cX0_bestAid 78 = .ok (.putfield 314, 3) := dk_181 1 58 (dk_at dksX0_bestAid_3 9 rfl rfl)
theorem dX0_bestAid_81 : decode cX0_bestAid 81 = .ok (.aload_n 0, 1) := dk_42 (dk_at dksX0_bestAid_3 12 rfl rfl)
theorem dX0_bestAid_82 : decode cX0_bestAid 82 = .ok (.aload_n 0, 1) := dk_42 (dk_at dksX0_bestAid_3 13 rfl rfl)
theorem dX0_bestAid_83 : decode cX0_bestAid 83 = .ok (.getfield 10, 3) := dk_180 0 10 (dk_at dksX0_bestAid_3 14 rfl rfl)
theorem dX0_bestAid_86 : decode cX0_bestAid 86 = .ok (.invokevirtual 35, 3) := dk_182 0 35 (dk_at dksX0_bestAid_3 17 rfl rfl)
theorem dX0_bestAid_89 : decode cX0_bestAid 89 = .ok (.bipush 6, 2) := dk_16 6 (dk_at dksX0_bestAid_3 20 rfl rfl)
theorem dX0_bestAid_91 : decode cX0_bestAid 91 = .ok (.newarray .int, 2) := dk_188_10 (dk_at dksX0_bestAid_3 22 rfl rfl)
theorem dX0_bestAid_93 : decode cX0_bestAid 93 = .ok (.iconst 0, 1) := dk_3 (dk_at dksX0_bestAid_4 0 rfl rfl)
theorem dX0_bestAid_94 : decode cX0_bestAid 94 = .ok (.iload_n 1, 1) := dk_27 (dk_at dksX0_bestAid_4 1 rfl rfl)
theorem dX0_bestAid_95 : decode cX0_bestAid 95 = .ok (.iload_n 2, 1) := dk_28 (dk_at dksX0_bestAid_4 2 rfl rfl)
theorem dX0_bestAid_96 : decode cX0_bestAid 96 = .ok (.invokevirtual 324, 3) := dk_182 1 68 (dk_at dksX0_bestAid_4 3 rfl rfl)
theorem dX0_bestAid_99 : decode cX0_bestAid 99 = .ok (.iload_n 3, 1) := dk_29 (dk_at dksX0_bestAid_4 6 rfl rfl)
theorem dX0_bestAid_100 : decode cX0_bestAid 100 = .ok (.iconst (-1), 1) := dk_2 (dk_at dksX0_bestAid_4 7 rfl rfl)
theorem dX0_bestAid_101 : decode cX0_bestAid 101 = .ok (.if_icmp .ne 10, 3) := dk_160 0 10 (dk_at dksX0_bestAid_4 8 rfl rfl)
theorem dX0_bestAid_104 : decode cX0_bestAid 104 = .ok (.aload_n 0, 1) := dk_42 (dk_at dksX0_bestAid_4 11 rfl rfl)
theorem dX0_bestAid_105 : decode cX0_bestAid 105 = .ok (.getfield 317, 3) := dk_180 1 61 (dk_at dksX0_bestAid_4 12 rfl rfl)
theorem dX0_bestAid_108 : decode cX0_bestAid 108 = .ok (.goto 9, 3) := dk_167 0 9 (dk_at dksX0_bestAid_4 15 rfl rfl)
theorem dX0_bestAid_111 : decode cX0_bestAid 111 = .ok (.aload_n 0, 1) := dk_42 (dk_at dksX0_bestAid_4 18 rfl rfl)
theorem dX0_bestAid_112 : decode cX0_bestAid 112 = .ok (.getfield 314, 3) := dk_180 1 58 (dk_at dksX0_bestAid_4 19 rfl rfl)
theorem dX0_bestAid_115 : decode cX0_bestAid 115 = .ok (.iload_n 3, 1) := dk_29 (dk_at dksX0_bestAid_4 22 rfl rfl)
theorem dX0_bestAid_116 : decode cX0_bestAid 116 = .ok (.iaload, 1) := dk_46 (dk_at dksX0_bestAid_4 23 rfl rfl)
theorem dX0_bestAid_117 : decode cX0_bestAid 117 = .ok (.ireturn, 1) := dk_172 (dk_at dksX0_bestAid_5 0 rfl rfl)
def dkwX0_gives_6 : List UInt8 := [180, 0, 67, 29, 50, 3, 92, 46, 21, 6, 21, 5, 104, 100, 79, 132, 6, 1, 167, 255, 193, 177]
abbrev dktX0_gives_6 : List UInt8 := dkwX0_gives_6 ++ []
def dkwX0_gives_5 : List UInt8 := [21, 6, 21, 5, 104, 96, 79, 42, 43, 44, 29, 4, 96, 21, 4, 21, 6, 100, 21, 5, 182, 1, 68, 43]
abbrev dktX0_gives_5 : List UInt8 := dkwX0_gives_5 ++ dktX0_gives_6
def dkwX0_gives_4 : List UInt8 := [54, 6, 21, 6, 21, 4, 163, 0, 62, 44, 29, 21, 6, 79, 43, 180, 0, 67, 29, 50, 3, 92, 46]
abbrev dktX0_gives_4 : List UInt8 := dkwX0_gives_4 ++ dktX0_gives_5
def dkwX0_gives_3 : List UInt8 := [161, 0, 4, 177, 42, 44, 182, 1, 64, 192, 1, 65, 181, 1, 58, 42, 21, 6, 181, 1, 61, 177, 3]
abbrev dktX0_gives_3 : List UInt8 := dkwX0_gives_3 ++ dktX0_gives_4
def dkwX0_gives_2 : List UInt8 := [92, 46, 21, 4, 21, 5, 104, 100, 79, 42, 180, 1, 58, 198, 0, 13, 21, 6, 42, 180, 1, 61]
abbrev dktX0_gives_2 : List UInt8 := dkwX0_gives_2 ++ dktX0_gives_3
def dkwX0_gives_1 : List UInt8 := [21, 4, 21, 5, 104, 96, 79, 43, 43, 182, 0, 141, 182, 0, 246, 54, 6, 43, 180, 0, 67, 29, 50, 3]
abbrev dktX0_gives_1 : List UInt8 := dkwX0_gives_1 ++ dktX0_gives_2
def dkwX0_gives_0 : List UInt8 := [29, 43, 180, 0, 64, 4, 100, 160, 0, 85, 44, 29, 21, 4, 79, 43, 180, 0, 67, 29, 50, 3, 92, 46]
abbrev dktX0_gives_0 : List UInt8 := dkwX0_gives_0 ++ dktX0_gives_1
theorem dksX0_gives_0 : cX0_gives.data.toList.drop 0 = dktX0_gives_0 := by decide +kernel
theorem dksX0_gives_1 : cX0_gives.data.toList.drop 24 = dktX0_gives_1 := dk_seg dksX0_gives_0 24 rfl rfl
theorem dksX0_gives_2 : cX0_gives.data.toList.drop 48 = dktX0_gives_2 := dk_seg dksX0_gives_1 24 rfl rfl
theorem dksX0_gives_3 : cX0_gives.data.toList.drop 70 = dktX0_gives_3 := dk_seg dksX0_gives_2 22 rfl rfl
theorem dksX0_gives_4 : cX0_gives.data.toList.drop 93 = dktX0_gives_4 := dk_seg dksX0_gives_3 23 rfl rfl
theorem dksX0_gives_5 : cX0_gives.data.toList.drop 116 = dktX0_gives_5 := dk_seg dksX0_gives_4 23 rfl rfl
theorem dksX0_gives_6 : cX0_gives.data.toList.drop 140 = dktX0_gives_6 := dk_seg dksX0_gives_5 24 rfl rfl
theorem dX0_gives_0 : decode cX0_gives 0 = .ok (.iload_n 3, 1) := dk_29 (dk_at dksX0_gives_0 0 rfl rfl)
theorem dX0_gives_1 : decode cX0_gives 1 = .ok (.aload_n 1, 1) := dk_43 (dk_at dksX0_gives_0 1 rfl rfl)
theorem dX0_gives_2 : decode cX0_gives 2 = .ok (.getfield 64, 3) := dk_180 0 64 (dk_at dksX0_gives_0 2 rfl rfl)
theorem dX0_gives_5 : decode cX0_gives 5 = .ok (.iconst 1, 1) := dk_4 (dk_at dksX0_gives_0 5 rfl rfl)
theorem dX0_gives_6 : decode cX0_gives 6 = .ok (.isub, 1) := dk_100 (dk_at dksX0_gives_0 6 rfl rfl)
theorem dX0_gives_7 : decode cX0_gives 7 = .ok (.if_icmp .ne 85, 3) := dk_160 0 85 (dk_at dksX0_gives_0 7 rfl rfl)
theorem dX0_gives_10 : decode cX0_gives 10 = .ok (.aload_n 2, 1) := dk_44 (dk_at dksX0_gives_0 10 rfl rfl)
theorem dX0_gives_11 : decode cX0_gives 11 = .ok (.iload_n 3, 1) := dk_29 (dk_at dksX0_gives_0 11 rfl rfl)
theorem dX0_gives_12 : decode cX0_gives 12 = .ok (.iload 4, 2) := dk_21 4 (dk_at dksX0_gives_0 12 rfl rfl)
theorem dX0_gives_14 : decode cX0_gives 14 = .ok (.iastore, 1) := dk_79 (dk_at dksX0_gives_0 14 rfl rfl)
theorem dX0_gives_15 : decode cX0_gives 15 = .ok (.aload_n 1, 1) := dk_43 (dk_at dksX0_gives_0 15 rfl rfl)
theorem dX0_gives_16 : decode cX0_gives 16 = .ok (.getfield 67, 3) := dk_180 0 67 (dk_at dksX0_gives_0 16 rfl rfl)
theorem dX0_gives_19 : decode cX0_gives 19 = .ok (.iload_n 3, 1) := dk_29 (dk_at dksX0_gives_0 19 rfl rfl)
theorem dX0_gives_20 : decode cX0_gives 20 = .ok (.aaload, 1) := dk_50 (dk_at dksX0_gives_0 20 rfl rfl)
theorem dX0_gives_21 : decode cX0_gives 21 = .ok (.iconst 0, 1) := dk_3 (dk_at dksX0_gives_0 21 rfl rfl)
theorem dX0_gives_22 : decode cX0_gives 22 = .ok (.dup2, 1) := dk_92 (dk_at dksX0_gives_0 22 rfl rfl)
theorem dX0_gives_23 : decode cX0_gives 23 = .ok (.iaload, 1) := dk_46 (dk_at dksX0_gives_0 23 rfl rfl)
theorem dX0_gives_24 : decode cX0_gives 24 = .ok (.iload 4, 2) := dk_21 4 (dk_at dksX0_gives_1 0 rfl rfl)
theorem dX0_gives_26 : decode cX0_gives 26 = .ok (.iload 5, 2) := dk_21 5 (dk_at dksX0_gives_1 2 rfl rfl)
theorem dX0_gives_28 : decode cX0_gives 28 = .ok (.imul, 1) := dk_104 (dk_at dksX0_gives_1 4 rfl rfl)
theorem dX0_gives_29 : decode cX0_gives 29 = .ok (.iadd, 1) := dk_96 (dk_at dksX0_gives_1 5 rfl rfl)
theorem dX0_gives_30 : decode cX0_gives 30 = .ok (.iastore, 1) := dk_79 (dk_at dksX0_gives_1 6 rfl rfl)
theorem dX0_gives_31 : decode cX0_gives 31 = .ok (.aload_n 1, 1) := dk_43 (dk_at dksX0_gives_1 7 rfl rfl)
theorem dX0_gives_32 : decode cX0_gives 32 = .ok (.aload_n 1, 1) := dk_43 (dk_at dksX0_gives_1 8 rfl rfl)
theorem dX0_gives_33 : decode cX0_gives 33 = .ok (.invokevirtual 141, 3) := dk_182 0 141 (dk_at dksX0_gives_1 9 rfl rfl)
theorem dX0_gives_36 : decode cX0_gives 36 = .ok (.invokevirtual 246, 3) := dk_182 0 246 (dk_at dksX0_gives_1 12 rfl rfl)
theorem dX0_gives_39 : decode cX0_gives 39 = .ok (.istore 6, 2) := dk_54 6 (dk_at dksX0_gives_1 15 rfl rfl)
theorem dX0_gives_41 : decode cX0_gives 41 = .ok (.aload_n 1, 1) := dk_43 (dk_at dksX0_gives_1 17 rfl rfl)
theorem dX0_gives_42 : decode cX0_gives 42 = .ok (.getfield 67, 3) := dk_180 0 67 (dk_at dksX0_gives_1 18 rfl rfl)
theorem dX0_gives_45 : decode cX0_gives 45 = .ok (.iload_n 3, 1) := dk_29 (dk_at dksX0_gives_1 21 rfl rfl)
theorem dX0_gives_46 : decode cX0_gives 46 = .ok (.aaload, 1) := dk_50 (dk_at dksX0_gives_1 22 rfl rfl)
theorem dX0_gives_47 : decode cX0_gives 47 = .ok (.iconst 0, 1) := dk_3 (dk_at dksX0_gives_1 23 rfl rfl)
theorem dX0_gives_48 : decode cX0_gives 48 = .ok (.dup2, 1) := dk_92 (dk_at dksX0_gives_2 0 rfl rfl)
theorem dX0_gives_49 : decode cX0_gives 49 = .ok (.iaload, 1) := dk_46 (dk_at dksX0_gives_2 1 rfl rfl)
theorem dX0_gives_50 : decode cX0_gives 50 = .ok (.iload 4, 2) := dk_21 4 (dk_at dksX0_gives_2 2 rfl rfl)
theorem dX0_gives_52 : decode cX0_gives 52 = .ok (.iload 5, 2) := dk_21 5 (dk_at dksX0_gives_2 4 rfl rfl)
theorem dX0_gives_54 : decode cX0_gives 54 = .ok (.imul, 1) := dk_104 (dk_at dksX0_gives_2 6 rfl rfl)
theorem dX0_gives_55 : decode cX0_gives 55 = .ok (.isub, 1) := dk_100 (dk_at dksX0_gives_2 7 rfl rfl)
theorem dX0_gives_56 : decode cX0_gives 56 = .ok (.iastore, 1) := dk_79 (dk_at dksX0_gives_2 8 rfl rfl)
theorem dX0_gives_57 : decode cX0_gives 57 = .ok (.aload_n 0, 1) := dk_42 (dk_at dksX0_gives_2 9 rfl rfl)
theorem dX0_gives_58 : decode cX0_gives 58 = .ok (.getfield 314, 3) := dk_180 1 58 (dk_at dksX0_gives_2 10 rfl rfl)
theorem dX0_gives_61 : decode cX0_gives 61 = .ok (.ifnull 13, 3) := dk_198 0 13 (dk_at dksX0_gives_2 13 rfl rfl)
theorem dX0_gives_64 : decode cX0_gives 64 = .ok (.iload 6, 2) := dk_21 6 (dk_at dksX0_gives_2 16 rfl rfl)
theorem dX0_gives_66 : decode cX0_gives 66 = .ok (.aload_n 0, 1) := dk_42 (dk_at dksX0_gives_2 18 rfl rfl)
theorem dX0_gives_67 : decode cX0_gives 67 = .ok (.getfield 317, 3) := dk_180 1 61 (dk_at dksX0_gives_2 19 rfl rfl)
theorem dX0_gives_70 : decode cX0_gives 70 = .ok (.if_icmp .lt 4, 3) := dk_161 0 4 (dk_at dksX0_gives_3 0 rfl rfl)
theorem dX0_gives_73 : decode cX0_gives 73 = .ok (.return_, 1) := dk_177 (dk_at dksX0_gives_3 3 rfl rfl)
theorem dX0_gives_74 : decode cX0_gives 74 = .ok (.aload_n 0, 1) := dk_42 (dk_at dksX0_gives_3 4 rfl rfl)
theorem dX0_gives_75 : decode cX0_gives 75 = .ok (.aload_n 2, 1) := dk_44 (dk_at dksX0_gives_3 5 rfl rfl)
theorem dX0_gives_76 : decode cX0_gives 76 = .ok (.invokevirtual 320, 3) := dk_182 1 64 (dk_at dksX0_gives_3 6 rfl rfl)
theorem dX0_gives_79 : decode cX0_gives 79 = .ok (.checkcast 321, 3) := dk_192 1 65 (dk_at dksX0_gives_3 9 rfl rfl)
theorem dX0_gives_82 : decode cX0_gives 82 = .ok (.putfield 314, 3) := dk_181 1 58 (dk_at dksX0_gives_3 12 rfl rfl)
theorem dX0_gives_85 : decode cX0_gives 85 = .ok (.aload_n 0, 1) := dk_42 (dk_at dksX0_gives_3 15 rfl rfl)
theorem dX0_gives_86 : decode cX0_gives 86 = .ok (.iload 6, 2) := dk_21 6 (dk_at dksX0_gives_3 16 rfl rfl)
theorem dX0_gives_88 : decode cX0_gives 88 = .ok (.putfield 317, 3) := dk_181 1 61 (dk_at dksX0_gives_3 18 rfl rfl)
theorem dX0_gives_91 : decode cX0_gives 91 = .ok (.return_, 1) := dk_177 (dk_at dksX0_gives_3 21 rfl rfl)
theorem dX0_gives_92 : decode cX0_gives 92 = .ok (.iconst 0, 1) := dk_3 (dk_at dksX0_gives_3 22 rfl rfl)
theorem dX0_gives_93 : decode cX0_gives 93 = .ok (.istore 6, 2) := dk_54 6 (dk_at dksX0_gives_4 0 rfl rfl)
theorem dX0_gives_95 : decode cX0_gives 95 = .ok (.iload 6, 2) := dk_21 6 (dk_at dksX0_gives_4 2 rfl rfl)
theorem dX0_gives_97 : decode cX0_gives 97 = .ok (.iload 4, 2) := dk_21 4 (dk_at dksX0_gives_4 4 rfl rfl)
theorem dX0_gives_99 : decode cX0_gives 99 = .ok (.if_icmp .gt 62, 3) := dk_163 0 62 (dk_at dksX0_gives_4 6 rfl rfl)
theorem dX0_gives_102 : decode cX0_gives 102 = .ok (.aload_n 2, 1) := dk_44 (dk_at dksX0_gives_4 9 rfl rfl)
theorem dX0_gives_103 : decode cX0_gives 103 = .ok (.iload_n 3, 1) := dk_29 (dk_at dksX0_gives_4 10 rfl rfl)
theorem dX0_gives_104 : decode cX0_gives 104 = .ok (.iload 6, 2) := dk_21 6 (dk_at dksX0_gives_4 11 rfl rfl)
theorem dX0_gives_106 : decode cX0_gives 106 = .ok (.iastore, 1) := dk_79 (dk_at dksX0_gives_4 13 rfl rfl)
theorem dX0_gives_107 : decode cX0_gives 107 = .ok (.aload_n 1, 1) := dk_43 (dk_at dksX0_gives_4 14 rfl rfl)
theorem dX0_gives_108 : decode cX0_gives 108 = .ok (.getfield 67, 3) := dk_180 0 67 (dk_at dksX0_gives_4 15 rfl rfl)
theorem dX0_gives_111 : decode cX0_gives 111 = .ok (.iload_n 3, 1) := dk_29 (dk_at dksX0_gives_4 18 rfl rfl)
theorem dX0_gives_112 : decode cX0_gives 112 = .ok (.aaload, 1) := dk_50 (dk_at dksX0_gives_4 19 rfl rfl)
theorem dX0_gives_113 : decode cX0_gives 113 = .ok (.iconst 0, 1) := dk_3 (dk_at dksX0_gives_4 20 rfl rfl)
theorem dX0_gives_114 : decode cX0_gives 114 = .ok (.dup2, 1) := dk_92 (dk_at dksX0_gives_4 21 rfl rfl)
theorem dX0_gives_115 : decode cX0_gives 115 = .ok (.iaload, 1) := dk_46 (dk_at dksX0_gives_4 22 rfl rfl)
theorem dX0_gives_116 : decode cX0_gives 116 = .ok (.iload 6, 2) := dk_21 6 (dk_at dksX0_gives_5 0 rfl rfl)
theorem dX0_gives_118 : decode cX0_gives 118 = .ok (.iload 5, 2) := dk_21 5 (dk_at dksX0_gives_5 2 rfl rfl)
theorem dX0_gives_120 : decode cX0_gives 120 = .ok (.imul, 1) := dk_104 (dk_at dksX0_gives_5 4 rfl rfl)
theorem dX0_gives_121 : decode cX0_gives 121 = .ok (.iadd, 1) := dk_96 (dk_at dksX0_gives_5 5 rfl rfl)
theorem dX0_gives_122 : decode cX0_gives 122 = .ok (.iastore, 1) := dk_79 (dk_at dksX0_gives_5 6 rfl rfl)
theorem dX0_gives_123 : decode cX0_gives 123 = .ok (.aload_n 0, 1) := dk_42 (dk_at dksX0_gives_5 7 rfl rfl)
theorem dX0_gives_124 : decode cX0_gives 124 = .ok (.aload_n 1, 1) := dk_43 (dk_at dksX0_gives_5 8 rfl rfl)
theorem dX0_gives_125 : decode cX0_gives 125 = .ok (.aload_n 2, 1) := dk_44 (dk_at dksX0_gives_5 9 rfl rfl)
theorem dX0_gives_126 : decode cX0_gives 126 = .ok (.iload_n 3, 1) := dk_29 (dk_at dksX0_gives_5 10 rfl rfl)
theorem dX0_gives_127 : decode cX0_gives 127 = .ok (.iconst 1, 1) := dk_4 (dk_at dksX0_gives_5 11 rfl rfl)
theorem dX0_gives_128 : decode cX0_gives 128 = .ok (.iadd, 1) := dk_96 (dk_at dksX0_gives_5 12 rfl rfl)
theorem dX0_gives_129 : decode cX0_gives 129 = .ok (.iload 4, 2) := dk_21 4 (dk_at dksX0_gives_5 13 rfl rfl)
theorem dX0_gives_131 : decode cX0_gives 131 = .ok (.iload 6, 2) := dk_21 6 (dk_at dksX0_gives_5 15 rfl rfl)
theorem dX0_gives_133 : decode cX0_gives 133 = .ok (.isub, 1) := dk_100 (dk_at dksX0_gives_5 17 rfl rfl)
theorem dX0_gives_134 : decode cX0_gives 134 = .ok (.iload 5, 2) := dk_21 5 (dk_at dksX0_gives_5 18 rfl rfl)
theorem dX0_gives_136 : decode cX0_gives 136 = .ok (.invokevirtual 324, 3) := dk_182 1 68 (dk_at dksX0_gives_5 20 rfl rfl)
theorem dX0_gives_139 : decode cX0_gives 139 = .ok (.aload_n 1, 1) := dk_43 (dk_at dksX0_gives_5 23 rfl rfl)
theorem dX0_gives_140 : decode cX0_gives 140 = .ok (.getfield 67, 3) := dk_180 0 67 (dk_at dksX0_gives_6 0 rfl rfl)
theorem dX0_gives_143 : decode cX0_gives 143 = .ok (.iload_n 3, 1) := dk_29 (dk_at dksX0_gives_6 3 rfl rfl)
theorem dX0_gives_144 : decode cX0_gives 144 = .ok (.aaload, 1) := dk_50 (dk_at dksX0_gives_6 4 rfl rfl)
theorem dX0_gives_145 : decode cX0_gives 145 = .ok (.iconst 0, 1) := dk_3 (dk_at dksX0_gives_6 5 rfl rfl)
theorem dX0_gives_146 : decode cX0_gives 146 = .ok (.dup2, 1) := dk_92 (dk_at dksX0_gives_6 6 rfl rfl)
theorem dX0_gives_147 : decode cX0_gives 147 = .ok (.iaload, 1) := dk_46 (dk_at dksX0_gives_6 7 rfl rfl)
theorem dX0_gives_148 : decode cX0_gives 148 = .ok (.iload 6, 2) := dk_21 6 (dk_at dksX0_gives_6 8 rfl rfl)
theorem dX0_gives_150 : decode cX0_gives 150 = .ok (.iload 5, 2) := dk_21 5 (dk_at dksX0_gives_6 10 rfl rfl)
theorem dX0_gives_152 : decode cX0_gives 152 = .ok (.imul, 1) := dk_104 (dk_at dksX0_gives_6 12 rfl rfl)
theorem dX0_gives_153 : decode cX0_gives 153 = .ok (.isub, 1) := dk_100 (dk_at dksX0_gives_6 13 rfl rfl)
theorem dX0_gives_154 : decode cX0_gives 154 = .ok (.iastore, 1) := dk_79 (dk_at dksX0_gives_6 14 rfl rfl)
theorem dX0_gives_155 : decode cX0_gives 155 = .ok (.iinc 6 1, 3) := dk_132 6 1 (dk_at dksX0_gives_6 15 rfl rfl)
theorem dX0_gives_158 : decode cX0_gives 158 = .ok (.goto (-63), 3) := dk_167 255 193 (dk_at dksX0_gives_6 18 rfl rfl)
theorem dX0_gives_161 : decode cX0_gives 161 = .ok (.return_, 1) := dk_177 (dk_at dksX0_gives_6 21 rfl rfl)
def dkwX0_buyer_2 : List UInt8 := [180, 1, 72, 27, 28, 79, 25, 4, 25, 4, 182, 0, 141, 29, 182, 0, 206, 172]
abbrev dktX0_buyer_2 : List UInt8 := dkwX0_buyer_2 ++ []
def dkwX0_buyer_1 : List UInt8 := [133, 9, 20, 0, 200, 184, 0, 45, 154, 0, 5, 2, 172, 42, 180, 0, 10, 182, 0, 35, 58, 4, 25, 4]
abbrev dktX0_buyer_1 : List UInt8 := dkwX0_buyer_1 ++ dktX0_buyer_2
def dkwX0_buyer_0 : List UInt8 := [42, 180, 0, 10, 27, 182, 0, 82, 153, 0, 27, 28, 133, 9, 20, 0, 97, 184, 0, 45, 153, 0, 15, 29]
abbrev dktX0_buyer_0 : List UInt8 := dkwX0_buyer_0 ++ dktX0_buyer_1
theorem dksX0_buyer_0 : cX0_buyer.data.toList.drop 0 = dktX0_buyer_0 := by decide +kernel
theorem dksX0_buyer_1 : cX0_buyer.data.toList.drop 24 = dktX0_buyer_1 := dk_seg dksX0_buyer_0 24 rfl rfl
theorem dksX0_buyer_2 : cX0_buyer.data.toList.drop 48 = dktX0_buyer_2 := dk_seg dksX0_buyer_1 24 rfl rfl
theorem dX0_buyer_0 : decode cX0_buyer 0 = .ok (.aload_n 0, 1) := dk_42 (dk_at dksX0_buyer_0 0 rfl rfl)
theorem dX0_buyer_1 : decode cX0_buyer 1 = .ok (.getfield 10, 3) := dk_180 0 10 (dk_at dksX0_buyer_0 1 rfl rfl)
theorem dX0_buyer_4 : decode cX0_buyer 4 = .ok (.iload_n 1, 1) := dk_27 (dk_at dksX0_buyer_0 4 rfl rfl)
theorem dX0_buyer_5 : decode cX0_buyer 5 = .ok (.invokevirtual 82, 3) := dk_182 0 82 (dk_at dksX0_buyer_0 5 rfl rfl)
theorem dX0_buyer_8 : decode cX0_buyer 8 = .ok (.ifCond .eq 27, 3) := dk_153 0 27 (dk_at dksX0_buyer_0 8 rfl rfl)
theorem dX0_buyer_11 : decode cX0_buyer 11 = .ok (.iload_n 2, 1) := dk_28 (dk_at dksX0_buyer_0 11 rfl rfl)
theorem dX0_buyer_12 : decode cX0_buyer 12 = .ok (.i2l, 1) := dk_133 (dk_at dksX0_buyer_0 12 rfl rfl)
theorem dX0_buyer_13 : decode cX0_buyer 13 = .ok (.lconst 0, 1) := dk_9 (dk_at dksX0_buyer_0 13 rfl rfl)
theorem dX0_buyer_14 : decode cX0_buyer 14 = .ok (.ldc2_w 97, 3) := dk_20 0 97 (dk_at dksX0_buyer_0 14 rfl rfl)
theorem dX0_buyer_17 : decode cX0_buyer 17 = .ok (.invokestatic 45, 3) := dk_184 0 45 (dk_at dksX0_buyer_0 17 rfl rfl)
theorem dX0_buyer_20 : decode cX0_buyer 20 = .ok (.ifCond .eq 15, 3) := dk_153 0 15 (dk_at dksX0_buyer_0 20 rfl rfl)
theorem dX0_buyer_23 : decode cX0_buyer 23 = .ok (.iload_n 3, 1) := dk_29 (dk_at dksX0_buyer_0 23 rfl rfl)
theorem dX0_buyer_24 : decode cX0_buyer 24 = .ok (.i2l, 1) := dk_133 (dk_at dksX0_buyer_1 0 rfl rfl)
theorem dX0_buyer_25 : decode cX0_buyer 25 = .ok (.lconst 0, 1) := dk_9 (dk_at dksX0_buyer_1 1 rfl rfl)
theorem dX0_buyer_26 : decode cX0_buyer 26 = .ok (.ldc2_w 200, 3) := dk_20 0 200 (dk_at dksX0_buyer_1 2 rfl rfl)
theorem dX0_buyer_29 : decode cX0_buyer 29 = .ok (.invokestatic 45, 3) := dk_184 0 45 (dk_at dksX0_buyer_1 5 rfl rfl)
theorem dX0_buyer_32 : decode cX0_buyer 32 = .ok (.ifCond .ne 5, 3) := dk_154 0 5 (dk_at dksX0_buyer_1 8 rfl rfl)
theorem dX0_buyer_35 : decode cX0_buyer 35 = .ok (.iconst (-1), 1) := dk_2 (dk_at dksX0_buyer_1 11 rfl rfl)
theorem dX0_buyer_36 : decode cX0_buyer 36 = .ok (.ireturn, 1) := dk_172 (dk_at dksX0_buyer_1 12 rfl rfl)
theorem dX0_buyer_37 : decode cX0_buyer 37 = .ok (.aload_n 0, 1) := dk_42 (dk_at dksX0_buyer_1 13 rfl rfl)
theorem dX0_buyer_38 : decode cX0_buyer 38 = .ok (.getfield 10, 3) := dk_180 0 10 (dk_at dksX0_buyer_1 14 rfl rfl)
theorem dX0_buyer_41 : decode cX0_buyer 41 = .ok (.invokevirtual 35, 3) := dk_182 0 35 (dk_at dksX0_buyer_1 17 rfl rfl)
theorem dX0_buyer_44 : decode cX0_buyer 44 = .ok (.astore 4, 2) := dk_58 4 (dk_at dksX0_buyer_1 20 rfl rfl)
theorem dX0_buyer_46 : decode cX0_buyer 46 = .ok (.aload 4, 2) := dk_25 4 (dk_at dksX0_buyer_1 22 rfl rfl)
theorem dX0_buyer_48 : decode cX0_buyer 48 = .ok (.getfield 328, 3) := dk_180 1 72 (dk_at dksX0_buyer_2 0 rfl rfl)
theorem dX0_buyer_51 : decode cX0_buyer 51 = .ok (.iload_n 1, 1) := dk_27 (dk_at dksX0_buyer_2 3 rfl rfl)
theorem dX0_buyer_52 : decode cX0_buyer 52 = .ok (.iload_n 2, 1) := dk_28 (dk_at dksX0_buyer_2 4 rfl rfl)
theorem dX0_buyer_53 : decode cX0_buyer 53 = .ok (.iastore, 1) := dk_79 (dk_at dksX0_buyer_2 5 rfl rfl)
theorem dX0_buyer_54 : decode cX0_buyer 54 = .ok (.aload 4, 2) := dk_25 4 (dk_at dksX0_buyer_2 6 rfl rfl)
theorem dX0_buyer_56 : decode cX0_buyer 56 = .ok (.aload 4, 2) := dk_25 4 (dk_at dksX0_buyer_2 8 rfl rfl)
theorem dX0_buyer_58 : decode cX0_buyer 58 = .ok (.invokevirtual 141, 3) := dk_182 0 141 (dk_at dksX0_buyer_2 10 rfl rfl)
theorem dX0_buyer_61 : decode cX0_buyer 61 = .ok (.iload_n 3, 1) := dk_29 (dk_at dksX0_buyer_2 13 rfl rfl)
theorem dX0_buyer_62 : decode cX0_buyer 62 = .ok (.invokevirtual 206, 3) := dk_182 0 206 (dk_at dksX0_buyer_2 14 rfl rfl)
theorem dX0_buyer_65 : decode cX0_buyer 65 = .ok (.ireturn, 1) := dk_172 (dk_at dksX0_buyer_2 17 rfl rfl)
def dkwX0_capFor_2 : List UInt8 := [132, 3, 255, 167, 255, 230, 16, 254, 172]
abbrev dktX0_capFor_2 : List UInt8 := dkwX0_capFor_2 ++ []
def dkwX0_capFor_1 : List UInt8 := [62, 29, 155, 0, 28, 44, 180, 1, 75, 27, 29, 79, 44, 182, 0, 141, 180, 0, 145, 154, 0, 5, 29, 172]
abbrev dktX0_capFor_1 : List UInt8 := dkwX0_capFor_1 ++ dktX0_capFor_2
def dkwX0_capFor_0 : List UInt8 := [42, 180, 0, 10, 27, 182, 0, 82, 154, 0, 5, 2, 172, 42, 180, 0, 10, 182, 0, 35, 77, 17, 1, 104]
abbrev dktX0_capFor_0 : List UInt8 := dkwX0_capFor_0 ++ dktX0_capFor_1
theorem dksX0_capFor_0 : cX0_capFor.data.toList.drop 0 = dktX0_capFor_0 := by decide +kernel
theorem dksX0_capFor_1 : cX0_capFor.data.toList.drop 24 = dktX0_capFor_1 := dk_seg dksX0_capFor_0 24 rfl rfl
theorem dksX0_capFor_2 : cX0_capFor.data.toList.drop 48 = dktX0_capFor_2 := dk_seg dksX0_capFor_1 24 rfl rfl
theorem dX0_capFor_0 : decode cX0_capFor 0 = .ok (.aload_n 0, 1) := dk_42 (dk_at dksX0_capFor_0 0 rfl rfl)
theorem dX0_capFor_1 : decode cX0_capFor 1 = .ok (.getfield 10, 3) := dk_180 0 10 (dk_at dksX0_capFor_0 1 rfl rfl)
theorem dX0_capFor_4 : decode cX0_capFor 4 = .ok (.iload_n 1, 1) := dk_27 (dk_at dksX0_capFor_0 4 rfl rfl)
theorem dX0_capFor_5 : decode cX0_capFor 5 = .ok (.invokevirtual 82, 3) := dk_182 0 82 (dk_at dksX0_capFor_0 5 rfl rfl)
theorem dX0_capFor_8 : decode cX0_capFor 8 = .ok (.ifCond .ne 5, 3) := dk_154 0 5 (dk_at dksX0_capFor_0 8 rfl rfl)
theorem dX0_capFor_11 : decode cX0_capFor 11 = .ok (.iconst (-1), 1) := dk_2 (dk_at dksX0_capFor_0 11 rfl rfl)
theorem dX0_capFor_12 : decode cX0_capFor 12 = .ok (.ireturn, 1) := dk_172 (dk_at dksX0_capFor_0 12 rfl rfl)
theorem dX0_capFor_13 : decode cX0_capFor 13 = .ok (.aload_n 0, 1) := dk_42 (dk_at dksX0_capFor_0 13 rfl rfl)
theorem dX0_capFor_14 : decode cX0_capFor 14 = .ok (.getfield 10, 3) := dk_180 0 10 (dk_at dksX0_capFor_0 14 rfl rfl)
theorem dX0_capFor_17 : decode cX0_capFor 17 = .ok (.invokevirtual 35, 3) := dk_182 0 35 (dk_at dksX0_capFor_0 17 rfl rfl)
theorem dX0_capFor_20 : decode cX0_capFor 20 = .ok (.astore_n 2, 1) := dk_77 (dk_at dksX0_capFor_0 20 rfl rfl)
theorem dX0_capFor_21 : decode cX0_capFor 21 = .ok (.sipush 360, 3) := dk_17 1 104 (dk_at dksX0_capFor_0 21 rfl rfl)
theorem dX0_capFor_24 : decode cX0_capFor 24 = .ok (.istore_n 3, 1) := dk_62 (dk_at dksX0_capFor_1 0 rfl rfl)
theorem dX0_capFor_25 : decode cX0_capFor 25 = .ok (.iload_n 3, 1) := dk_29 (dk_at dksX0_capFor_1 1 rfl rfl)
theorem dX0_capFor_26 : decode cX0_capFor 26 = .ok (.ifCond .lt 28, 3) := dk_155 0 28 (dk_at dksX0_capFor_1 2 rfl rfl)
theorem dX0_capFor_29 : decode cX0_capFor 29 = .ok (.aload_n 2, 1) := dk_44 (dk_at dksX0_capFor_1 5 rfl rfl)
theorem dX0_capFor_30 : decode cX0_capFor 30 = .ok (.getfield 331, 3) := dk_180 1 75 (dk_at dksX0_capFor_1 6 rfl rfl)
theorem dX0_capFor_33 : decode cX0_capFor 33 = .ok (.iload_n 1, 1) := dk_27 (dk_at dksX0_capFor_1 9 rfl rfl)
theorem dX0_capFor_34 : decode cX0_capFor 34 = .ok (.iload_n 3, 1) := dk_29 (dk_at dksX0_capFor_1 10 rfl rfl)
theorem dX0_capFor_35 : decode cX0_capFor 35 = .ok (.iastore, 1) := dk_79 (dk_at dksX0_capFor_1 11 rfl rfl)
theorem dX0_capFor_36 : decode cX0_capFor 36 = .ok (.aload_n 2, 1) := dk_44 (dk_at dksX0_capFor_1 12 rfl rfl)
theorem dX0_capFor_37 : decode cX0_capFor 37 = .ok (.invokevirtual 141, 3) := dk_182 0 141 (dk_at dksX0_capFor_1 13 rfl rfl)
theorem dX0_capFor_40 : decode cX0_capFor 40 = .ok (.getfield 145, 3) := dk_180 0 145 (dk_at dksX0_capFor_1 16 rfl rfl)
theorem dX0_capFor_43 : decode cX0_capFor 43 = .ok (.ifCond .ne 5, 3) := dk_154 0 5 (dk_at dksX0_capFor_1 19 rfl rfl)
theorem dX0_capFor_46 : decode cX0_capFor 46 = .ok (.iload_n 3, 1) := dk_29 (dk_at dksX0_capFor_1 22 rfl rfl)
theorem dX0_capFor_47 : decode cX0_capFor 47 = .ok (.ireturn, 1) := dk_172 (dk_at dksX0_capFor_1 23 rfl rfl)
theorem dX0_capFor_48 : decode cX0_capFor 48 = .ok (.iinc 3 (-1), 3) := dk_132 3 255 (dk_at dksX0_capFor_2 0 rfl rfl)
theorem dX0_capFor_51 : decode cX0_capFor 51 = .ok (.goto (-26), 3) := dk_167 255 230 (dk_at dksX0_capFor_2 3 rfl rfl)
theorem dX0_capFor_54 : decode cX0_capFor 54 = .ok (.bipush (-2), 2) := dk_16 254 (dk_at dksX0_capFor_2 6 rfl rfl)
theorem dX0_capFor_56 : decode cX0_capFor 56 = .ok (.ireturn, 1) := dk_172 (dk_at dksX0_capFor_2 8 rfl rfl)
def dkwX0_shockFor_2 : List UInt8 := [132, 3, 255, 167, 255, 230, 16, 254, 172]
abbrev dktX0_shockFor_2 : List UInt8 := dkwX0_shockFor_2 ++ []
def dkwX0_shockFor_1 : List UInt8 := [62, 29, 155, 0, 28, 44, 180, 1, 78, 27, 29, 79, 44, 182, 0, 141, 180, 0, 145, 154, 0, 5, 29, 172]
abbrev dktX0_shockFor_1 : List UInt8 := dkwX0_shockFor_1 ++ dktX0_shockFor_2
def dkwX0_shockFor_0 : List UInt8 := [42, 180, 0, 10, 27, 182, 0, 82, 154, 0, 5, 2, 172, 42, 180, 0, 10, 182, 0, 35, 77, 17, 0, 200]
abbrev dktX0_shockFor_0 : List UInt8 := dkwX0_shockFor_0 ++ dktX0_shockFor_1
theorem dksX0_shockFor_0 : cX0_shockFor.data.toList.drop 0 = dktX0_shockFor_0 := by decide +kernel
theorem dksX0_shockFor_1 : cX0_shockFor.data.toList.drop 24 = dktX0_shockFor_1 := dk_seg dksX0_shockFor_0 24 rfl rfl
theorem dksX0_shockFor_2 : cX0_shockFor.data.toList.drop 48 = dktX0_shockFor_2 := dk_seg dksX0_shockFor_1 24 rfl rfl
theorem dX0_shockFor_0 : decode cX0_shockFor 0 = .ok (.aload_n 0, 1) := dk_42 (dk_at dksX0_shockFor_0 0 rfl rfl)
theorem dX0_shockFor_1 : decode cX0_shockFor 1 = .ok (.getfield 10, 3) := dk_180 0 10 (dk_at dksX0_shockFor_0 1 rfl rfl)
theorem dX0_shockFor_4 : decode cX0_shockFor 4 = .ok (.iload_n 1, 1) := dk_27 (dk_at dksX0_shockFor_0 4 rfl rfl)
theorem dX0_shockFor_5 : decode cX0_shockFor 5 = .ok (.invokevirtual 82, 3) := dk_182 0 82 (dk_at dksX0_shockFor_0 5 rfl rfl)
theorem dX0_shockFor_8 : decode cX0_shockFor 8 = .ok (.ifCond .ne 5, 3) := dk_154 0 5 (dk_at dksX0_shockFor_0 8 rfl rfl)
theorem dX0_shockFor_11 : decode cX0_shockFor 11 = .ok (.iconst (-1), 1) := dk_2 (dk_at dksX0_shockFor_0 11 rfl rfl)
theorem dX0_shockFor_12 : decode cX0_shockFor 12 = .ok (.ireturn, 1) := dk_172 (dk_at dksX0_shockFor_0 12 rfl rfl)
theorem dX0_shockFor_13 : decode cX0_shockFor 13 = .ok (.aload_n 0, 1) := dk_42 (dk_at dksX0_shockFor_0 13 rfl rfl)
theorem dX0_shockFor_14 : decode cX0_shockFor 14 = .ok (.getfield 10, 3) := dk_180 0 10 (dk_at dksX0_shockFor_0 14 rfl rfl)
theorem dX0_shockFor_17 : decode cX0_shockFor 17 = .ok (.invokevirtual 35, 3) := dk_182 0 35 (dk_at dksX0_shockFor_0 17 rfl rfl)
theorem dX0_shockFor_20 : decode cX0_shockFor 20 = .ok (.astore_n 2, 1) := dk_77 (dk_at dksX0_shockFor_0 20 rfl rfl)
theorem dX0_shockFor_21 : decode cX0_shockFor 21 = .ok (.sipush 200, 3) := dk_17 0 200 (dk_at dksX0_shockFor_0 21 rfl rfl)
theorem dX0_shockFor_24 : decode cX0_shockFor 24 = .ok (.istore_n 3, 1) := dk_62 (dk_at dksX0_shockFor_1 0 rfl rfl)
theorem dX0_shockFor_25 : decode cX0_shockFor 25 = .ok (.iload_n 3, 1) := dk_29 (dk_at dksX0_shockFor_1 1 rfl rfl)
theorem dX0_shockFor_26 : decode cX0_shockFor 26 = .ok (.ifCond .lt 28, 3) := dk_155 0 28 (dk_at dksX0_shockFor_1 2 rfl rfl)
theorem dX0_shockFor_29 : decode cX0_shockFor 29 = .ok (.aload_n 2, 1) := dk_44 (dk_at dksX0_shockFor_1 5 rfl rfl)
theorem dX0_shockFor_30 : decode cX0_shockFor 30 = .ok (.getfield 334, 3) := dk_180 1 78 (dk_at dksX0_shockFor_1 6 rfl rfl)
theorem dX0_shockFor_33 : decode cX0_shockFor 33 = .ok (.iload_n 1, 1) := dk_27 (dk_at dksX0_shockFor_1 9 rfl rfl)
theorem dX0_shockFor_34 : decode cX0_shockFor 34 = .ok (.iload_n 3, 1) := dk_29 (dk_at dksX0_shockFor_1 10 rfl rfl)
theorem dX0_shockFor_35 : decode cX0_shockFor 35 = .ok (.iastore, 1) := dk_79 (dk_at dksX0_shockFor_1 11 rfl rfl)
theorem dX0_shockFor_36 : decode cX0_shockFor 36 = .ok (.aload_n 2, 1) := dk_44 (dk_at dksX0_shockFor_1 12 rfl rfl)
theorem dX0_shockFor_37 : decode cX0_shockFor 37 = .ok (.invokevirtual 141, 3) := dk_182 0 141 (dk_at dksX0_shockFor_1 13 rfl rfl)
theorem dX0_shockFor_40 : decode cX0_shockFor 40 = .ok (.getfield 145, 3) := dk_180 0 145 (dk_at dksX0_shockFor_1 16 rfl rfl)
theorem dX0_shockFor_43 : decode cX0_shockFor 43 = .ok (.ifCond .ne 5, 3) := dk_154 0 5 (dk_at dksX0_shockFor_1 19 rfl rfl)
theorem dX0_shockFor_46 : decode cX0_shockFor 46 = .ok (.iload_n 3, 1) := dk_29 (dk_at dksX0_shockFor_1 22 rfl rfl)
theorem dX0_shockFor_47 : decode cX0_shockFor 47 = .ok (.ireturn, 1) := dk_172 (dk_at dksX0_shockFor_1 23 rfl rfl)
theorem dX0_shockFor_48 : decode cX0_shockFor 48 = .ok (.iinc 3 (-1), 3) := dk_132 3 255 (dk_at dksX0_shockFor_2 0 rfl rfl)
theorem dX0_shockFor_51 : decode cX0_shockFor 51 = .ok (.goto (-26), 3) := dk_167 255 230 (dk_at dksX0_shockFor_2 3 rfl rfl)
theorem dX0_shockFor_54 : decode cX0_shockFor 54 = .ok (.bipush (-2), 2) := dk_16 254 (dk_at dksX0_shockFor_2 6 rfl rfl)
theorem dX0_shockFor_56 : decode cX0_shockFor 56 = .ok (.ireturn, 1) := dk_172 (dk_at dksX0_shockFor_2 8 rfl rfl)
def dkwX0_domino_1 : List UInt8 := [180, 0, 10, 42, 27, 182, 1, 84, 28, 182, 0, 206, 167, 0, 4, 2, 172]
abbrev dktX0_domino_1 : List UInt8 := dkwX0_domino_1 ++ []
def dkwX0_domino_0 : List UInt8 := [42, 180, 0, 10, 27, 182, 0, 72, 153, 0, 31, 28, 133, 9, 20, 0, 200, 184, 0, 45, 153, 0, 19, 42]
abbrev dktX0_domino_0 : List UInt8 := dkwX0_domino_0 ++ dktX0_domino_1
theorem dksX0_domino_0 : cX0_domino.data.toList.drop 0 = dktX0_domino_0 := by decide +kernel
theorem dksX0_domino_1 : cX0_domino.data.toList.drop 24 = dktX0_domino_1 := dk_seg dksX0_domino_0 24 rfl rfl
theorem dX0_domino_0 : decode cX0_domino 0 = .ok (.aload_n 0, 1) := dk_42 (dk_at dksX0_domino_0 0 rfl rfl)
theorem dX0_domino_1 : decode cX0_domino 1 = .ok (.getfield 10, 3) := dk_180 0 10 (dk_at dksX0_domino_0 1 rfl rfl)
theorem dX0_domino_4 : decode cX0_domino 4 = .ok (.iload_n 1, 1) := dk_27 (dk_at dksX0_domino_0 4 rfl rfl)
theorem dX0_domino_5 : decode cX0_domino 5 = .ok (.invokevirtual 72, 3) := dk_182 0 72 (dk_at dksX0_domino_0 5 rfl rfl)
theorem dX0_domino_8 : decode cX0_domino 8 = .ok (.ifCond .eq 31, 3) := dk_153 0 31 (dk_at dksX0_domino_0 8 rfl rfl)
theorem dX0_domino_11 : decode cX0_domino 11 = .ok (.iload_n 2, 1) := dk_28 (dk_at dksX0_domino_0 11 rfl rfl)
theorem dX0_domino_12 : decode cX0_domino 12 = .ok (.i2l, 1) := dk_133 (dk_at dksX0_domino_0 12 rfl rfl)
theorem dX0_domino_13 : decode cX0_domino 13 = .ok (.lconst 0, 1) := dk_9 (dk_at dksX0_domino_0 13 rfl rfl)
theorem dX0_domino_14 : decode cX0_domino 14 = .ok (.ldc2_w 200, 3) := dk_20 0 200 (dk_at dksX0_domino_0 14 rfl rfl)
theorem dX0_domino_17 : decode cX0_domino 17 = .ok (.invokestatic 45, 3) := dk_184 0 45 (dk_at dksX0_domino_0 17 rfl rfl)
theorem dX0_domino_20 : decode cX0_domino 20 = .ok (.ifCond .eq 19, 3) := dk_153 0 19 (dk_at dksX0_domino_0 20 rfl rfl)
theorem dX0_domino_23 : decode cX0_domino 23 = .ok (.aload_n 0, 1) := dk_42 (dk_at dksX0_domino_0 23 rfl rfl)
theorem dX0_domino_24 : decode cX0_domino 24 = .ok (.getfield 10, 3) := dk_180 0 10 (dk_at dksX0_domino_1 0 rfl rfl)
theorem dX0_domino_27 : decode cX0_domino 27 = .ok (.aload_n 0, 1) := dk_42 (dk_at dksX0_domino_1 3 rfl rfl)
theorem dX0_domino_28 : decode cX0_domino 28 = .ok (.iload_n 1, 1) := dk_27 (dk_at dksX0_domino_1 4 rfl rfl)
theorem dX0_domino_29 : decode cX0_domino 29 = .ok (.invokevirtual 340, 3) := dk_182 1 84 (dk_at dksX0_domino_1 5 rfl rfl)
theorem dX0_domino_32 : decode cX0_domino 32 = .ok (.iload_n 2, 1) := dk_28 (dk_at dksX0_domino_1 8 rfl rfl)
theorem dX0_domino_33 : decode cX0_domino 33 = .ok (.invokevirtual 206, 3) := dk_182 0 206 (dk_at dksX0_domino_1 9 rfl rfl)
theorem dX0_domino_36 : decode cX0_domino 36 = .ok (.goto 4, 3) := dk_167 0 4 (dk_at dksX0_domino_1 12 rfl rfl)
theorem dX0_domino_39 : decode cX0_domino 39 = .ok (.iconst (-1), 1) := dk_2 (dk_at dksX0_domino_1 15 rfl rfl)
theorem dX0_domino_40 : decode cX0_domino 40 = .ok (.ireturn, 1) := dk_172 (dk_at dksX0_domino_1 16 rfl rfl)
def dkwX0_with_0 : List UInt8 := [42, 180, 0, 10, 182, 0, 35, 77, 44, 4, 27, 120, 181, 1, 81, 44, 182, 0, 141, 176]
abbrev dktX0_with_0 : List UInt8 := dkwX0_with_0 ++ []
theorem dksX0_with_0 : cX0_with.data.toList.drop 0 = dktX0_with_0 := by decide +kernel
theorem dX0_with_0 : decode cX0_with 0 = .ok (.aload_n 0, 1) := dk_42 (dk_at dksX0_with_0 0 rfl rfl)
theorem dX0_with_1 : decode cX0_with 1 = .ok (.getfield 10, 3) := dk_180 0 10 (dk_at dksX0_with_0 1 rfl rfl)
theorem dX0_with_4 : decode cX0_with 4 = .ok (.invokevirtual 35, 3) := dk_182 0 35 (dk_at dksX0_with_0 4 rfl rfl)
theorem dX0_with_7 : decode cX0_with 7 = .ok (.astore_n 2, 1) := dk_77 (dk_at dksX0_with_0 7 rfl rfl)
theorem dX0_with_8 : decode cX0_with 8 = .ok (.aload_n 2, 1) := dk_44 (dk_at dksX0_with_0 8 rfl rfl)
theorem dX0_with_9 : decode cX0_with 9 = .ok (.iconst 1, 1) := dk_4 (dk_at dksX0_with_0 9 rfl rfl)
theorem dX0_with_10 : decode cX0_with 10 = .ok (.iload_n 1, 1) := dk_27 (dk_at dksX0_with_0 10 rfl rfl)
theorem dX0_with_11 : decode cX0_with 11 = .ok (.ishl, 1) := dk_120 (dk_at dksX0_with_0 11 rfl rfl)
theorem dX0_with_12 : decode cX0_with 12 = .ok (.putfield 337, 3) := dk_181 1 81 (dk_at dksX0_with_0 12 rfl rfl)
theorem dX0_with_15 : decode cX0_with 15 = .ok (.aload_n 2, 1) := dk_44 (dk_at dksX0_with_0 15 rfl rfl)
theorem dX0_with_16 : decode cX0_with 16 = .ok (.invokevirtual 141, 3) := dk_182 0 141 (dk_at dksX0_with_0 16 rfl rfl)
theorem dX0_with_19 : decode cX0_with 19 = .ok (.areturn, 1) := dk_176 (dk_at dksX0_with_0 19 rfl rfl)
def dkwX0_keystone_2 : List UInt8 := [132, 3, 1, 167, 255, 215, 27, 172]
abbrev dktX0_keystone_2 : List UInt8 := dkwX0_keystone_2 ++ []
def dkwX0_keystone_1 : List UInt8 := [180, 0, 145, 184, 1, 87, 54, 4, 21, 4, 28, 163, 0, 6, 167, 0, 8, 21, 4, 61, 29, 60]
abbrev dktX0_keystone_1 : List UInt8 := dkwX0_keystone_1 ++ dktX0_keystone_2
def dkwX0_keystone_0 : List UInt8 := [16, 254, 60, 3, 61, 3, 62, 29, 42, 180, 0, 10, 180, 0, 64, 162, 0, 36, 42, 29, 182, 1, 84]
abbrev dktX0_keystone_0 : List UInt8 := dkwX0_keystone_0 ++ dktX0_keystone_1
theorem dksX0_keystone_0 : cX0_keystone.data.toList.drop 0 = dktX0_keystone_0 := by decide +kernel
theorem dksX0_keystone_1 : cX0_keystone.data.toList.drop 23 = dktX0_keystone_1 := dk_seg dksX0_keystone_0 23 rfl rfl
theorem dksX0_keystone_2 : cX0_keystone.data.toList.drop 45 = dktX0_keystone_2 := dk_seg dksX0_keystone_1 22 rfl rfl
theorem dX0_keystone_0 : decode cX0_keystone 0 = .ok (.bipush (-2), 2) := dk_16 254 (dk_at dksX0_keystone_0 0 rfl rfl)
theorem dX0_keystone_2 : decode cX0_keystone 2 = .ok (.istore_n 1, 1) := dk_60 (dk_at dksX0_keystone_0 2 rfl rfl)
theorem dX0_keystone_3 : decode cX0_keystone 3 = .ok (.iconst 0, 1) := dk_3 (dk_at dksX0_keystone_0 3 rfl rfl)
theorem dX0_keystone_4 : decode cX0_keystone 4 = .ok (.istore_n 2, 1) := dk_61 (dk_at dksX0_keystone_0 4 rfl rfl)
theorem dX0_keystone_5 : decode cX0_keystone 5 = .ok (.iconst 0, 1) := dk_3 (dk_at dksX0_keystone_0 5 rfl rfl)
theorem dX0_keystone_6 : decode cX0_keystone 6 = .ok (.istore_n 3, 1) := dk_62 (dk_at dksX0_keystone_0 6 rfl rfl)
theorem dX0_keystone_7 : decode cX0_keystone 7 = .ok (.iload_n 3, 1) := dk_29 (dk_at dksX0_keystone_0 7 rfl rfl)
theorem dX0_keystone_8 : decode cX0_keystone 8 = .ok (.aload_n 0, 1) := dk_42 (dk_at dksX0_keystone_0 8 rfl rfl)
theorem dX0_keystone_9 : decode cX0_keystone 9 = .ok (.getfield 10, 3) := dk_180 0 10 (dk_at dksX0_keystone_0 9 rfl rfl)
theorem dX0_keystone_12 : decode cX0_keystone 12 = .ok (.getfield 64, 3) := dk_180 0 64 (dk_at dksX0_keystone_0 12 rfl rfl)
theorem dX0_keystone_15 : decode cX0_keystone 15 = .ok (.if_icmp .ge 36, 3) := dk_162 0 36 (dk_at dksX0_keystone_0 15 rfl rfl)
theorem dX0_keystone_18 : decode cX0_keystone 18 = .ok (.aload_n 0, 1) := dk_42 (dk_at dksX0_keystone_0 18 rfl rfl)
theorem dX0_keystone_19 : decode cX0_keystone 19 = .ok (.iload_n 3, 1) := dk_29 (dk_at dksX0_keystone_0 19 rfl rfl)
theorem dX0_keystone_20 : decode cX0_keystone 20 = .ok (.invokevirtual 340, 3) := dk_182 1 84 (dk_at dksX0_keystone_0 20 rfl rfl)
theorem dX0_keystone_23 : decode cX0_keystone 23 = .ok (.getfield 145, 3) := dk_180 0 145 (dk_at dksX0_keystone_1 0 rfl rfl)
theorem dX0_keystone_26 : decode cX0_keystone 26 = .ok (.invokestatic 343, 3) := dk_184 1 87 (dk_at dksX0_keystone_1 3 rfl rfl)
theorem dX0_keystone_29 : decode cX0_keystone 29 = .ok (.istore 4, 2) := dk_54 4 (dk_at dksX0_keystone_1 6 rfl rfl)
theorem dX0_keystone_31 : decode cX0_keystone 31 = .ok (.iload 4, 2) := dk_21 4 (dk_at dksX0_keystone_1 8 rfl rfl)
theorem dX0_keystone_33 : decode cX0_keystone 33 = .ok (.iload_n 2, 1) := dk_28 (dk_at dksX0_keystone_1 10 rfl rfl)
theorem dX0_keystone_34 : decode cX0_keystone 34 = .ok (.if_icmp .gt 6, 3) := dk_163 0 6 (dk_at dksX0_keystone_1 11 rfl rfl)
theorem dX0_keystone_37 : decode cX0_keystone 37 = .ok (.goto 8, 3) := dk_167 0 8 (dk_at dksX0_keystone_1 14 rfl rfl)
theorem dX0_keystone_40 : decode cX0_keystone 40 = .ok (.iload 4, 2) := dk_21 4 (dk_at dksX0_keystone_1 17 rfl rfl)
theorem dX0_keystone_42 : decode cX0_keystone 42 = .ok (.istore_n 2, 1) := dk_61 (dk_at dksX0_keystone_1 19 rfl rfl)
theorem dX0_keystone_43 : decode cX0_keystone 43 = .ok (.iload_n 3, 1) := dk_29 (dk_at dksX0_keystone_1 20 rfl rfl)
theorem dX0_keystone_44 : decode cX0_keystone 44 = .ok (.istore_n 1, 1) := dk_60 (dk_at dksX0_keystone_1 21 rfl rfl)
theorem dX0_keystone_45 : decode cX0_keystone 45 = .ok (.iinc 3 1, 3) := dk_132 3 1 (dk_at dksX0_keystone_2 0 rfl rfl)
theorem dX0_keystone_48 : decode cX0_keystone 48 = .ok (.goto (-41), 3) := dk_167 255 215 (dk_at dksX0_keystone_2 3 rfl rfl)
theorem dX0_keystone_51 : decode cX0_keystone 51 = .ok (.iload_n 1, 1) := dk_27 (dk_at dksX0_keystone_2 6 rfl rfl)
theorem dX0_keystone_52 : decode cX0_keystone 52 = .ok (.ireturn, 1) := dk_172 (dk_at dksX0_keystone_2 7 rfl rfl)
def dkwX0_pulls_1 : List UInt8 := [182, 0, 141, 180, 0, 145, 2, 130, 126, 4, 27, 120, 2, 130, 126, 167, 0, 4, 2, 172]
abbrev dktX0_pulls_1 : List UInt8 := dkwX0_pulls_1 ++ []
def dkwX0_pulls_0 : List UInt8 := [42, 180, 0, 10, 27, 182, 0, 72, 153, 0, 33, 42, 27, 182, 1, 84, 180, 0, 145, 42, 180, 0, 10]
abbrev dktX0_pulls_0 : List UInt8 := dkwX0_pulls_0 ++ dktX0_pulls_1
theorem dksX0_pulls_0 : cX0_pulls.data.toList.drop 0 = dktX0_pulls_0 := by decide +kernel
theorem dksX0_pulls_1 : cX0_pulls.data.toList.drop 23 = dktX0_pulls_1 := dk_seg dksX0_pulls_0 23 rfl rfl
theorem dX0_pulls_0 : decode cX0_pulls 0 = .ok (.aload_n 0, 1) := dk_42 (dk_at dksX0_pulls_0 0 rfl rfl)
theorem dX0_pulls_1 : decode cX0_pulls 1 = .ok (.getfield 10, 3) := dk_180 0 10 (dk_at dksX0_pulls_0 1 rfl rfl)
theorem dX0_pulls_4 : decode cX0_pulls 4 = .ok (.iload_n 1, 1) := dk_27 (dk_at dksX0_pulls_0 4 rfl rfl)
theorem dX0_pulls_5 : decode cX0_pulls 5 = .ok (.invokevirtual 72, 3) := dk_182 0 72 (dk_at dksX0_pulls_0 5 rfl rfl)
theorem dX0_pulls_8 : decode cX0_pulls 8 = .ok (.ifCond .eq 33, 3) := dk_153 0 33 (dk_at dksX0_pulls_0 8 rfl rfl)
theorem dX0_pulls_11 : decode cX0_pulls 11 = .ok (.aload_n 0, 1) := dk_42 (dk_at dksX0_pulls_0 11 rfl rfl)
theorem dX0_pulls_12 : decode cX0_pulls 12 = .ok (.iload_n 1, 1) := dk_27 (dk_at dksX0_pulls_0 12 rfl rfl)
theorem dX0_pulls_13 : decode cX0_pulls 13 = .ok (.invokevirtual 340, 3) := dk_182 1 84 (dk_at dksX0_pulls_0 13 rfl rfl)
theorem dX0_pulls_16 : decode cX0_pulls 16 = .ok (.getfield 145, 3) := dk_180 0 145 (dk_at dksX0_pulls_0 16 rfl rfl)
theorem dX0_pulls_19 : decode cX0_pulls 19 = .ok (.aload_n 0, 1) := dk_42 (dk_at dksX0_pulls_0 19 rfl rfl)
theorem dX0_pulls_20 : decode cX0_pulls 20 = .ok (.getfield 10, 3) := dk_180 0 10 (dk_at dksX0_pulls_0 20 rfl rfl)
theorem dX0_pulls_23 : decode cX0_pulls 23 = .ok (.invokevirtual 141, 3) := dk_182 0 141 (dk_at dksX0_pulls_1 0 rfl rfl)
theorem dX0_pulls_26 : decode cX0_pulls 26 = .ok (.getfield 145, 3) := dk_180 0 145 (dk_at dksX0_pulls_1 3 rfl rfl)
theorem dX0_pulls_29 : decode cX0_pulls 29 = .ok (.iconst (-1), 1) := dk_2 (dk_at dksX0_pulls_1 6 rfl rfl)
theorem dX0_pulls_30 : decode cX0_pulls 30 = .ok (.ixor, 1) := dk_130 (dk_at dksX0_pulls_1 7 rfl rfl)
theorem dX0_pulls_31 : decode cX0_pulls 31 = .ok (.iand, 1) := dk_126 (dk_at dksX0_pulls_1 8 rfl rfl)
theorem dX0_pulls_32 : decode cX0_pulls 32 = .ok (.iconst 1, 1) := dk_4 (dk_at dksX0_pulls_1 9 rfl rfl)
theorem dX0_pulls_33 : decode cX0_pulls 33 = .ok (.iload_n 1, 1) := dk_27 (dk_at dksX0_pulls_1 10 rfl rfl)
theorem dX0_pulls_34 : decode cX0_pulls 34 = .ok (.ishl, 1) := dk_120 (dk_at dksX0_pulls_1 11 rfl rfl)
theorem dX0_pulls_35 : decode cX0_pulls 35 = .ok (.iconst (-1), 1) := dk_2 (dk_at dksX0_pulls_1 12 rfl rfl)
theorem dX0_pulls_36 : decode cX0_pulls 36 = .ok (.ixor, 1) := dk_130 (dk_at dksX0_pulls_1 13 rfl rfl)
theorem dX0_pulls_37 : decode cX0_pulls 37 = .ok (.iand, 1) := dk_126 (dk_at dksX0_pulls_1 14 rfl rfl)
theorem dX0_pulls_38 : decode cX0_pulls 38 = .ok (.goto 4, 3) := dk_167 0 4 (dk_at dksX0_pulls_1 15 rfl rfl)
theorem dX0_pulls_41 : decode cX0_pulls 41 = .ok (.iconst (-1), 1) := dk_2 (dk_at dksX0_pulls_1 18 rfl rfl)
theorem dX0_pulls_42 : decode cX0_pulls 42 = .ok (.ireturn, 1) := dk_172 (dk_at dksX0_pulls_1 19 rfl rfl)
def dkwX0_room_3 : List UInt8 := [4, 100, 62, 167, 255, 220, 28, 172]
abbrev dktX0_room_3 : List UInt8 := dkwX0_room_3 ++ []
def dkwX0_room_2 : List UInt8 := [96, 4, 124, 54, 4, 42, 27, 21, 4, 116, 182, 1, 50, 153, 0, 9, 21, 4, 61, 167, 0, 8, 21, 4]
abbrev dktX0_room_2 : List UInt8 := dkwX0_room_2 ++ dktX0_room_3
def dkwX0_room_1 : List UInt8 := [172, 3, 61, 42, 180, 0, 10, 180, 0, 67, 27, 50, 3, 46, 62, 28, 29, 162, 0, 37, 28, 29, 96, 4]
abbrev dktX0_room_1 : List UInt8 := dkwX0_room_1 ++ dktX0_room_2
def dkwX0_room_0 : List UInt8 := [42, 180, 0, 10, 27, 182, 0, 72, 154, 0, 5, 2, 172, 42, 27, 3, 182, 1, 50, 154, 0, 6, 16, 254]
abbrev dktX0_room_0 : List UInt8 := dkwX0_room_0 ++ dktX0_room_1
theorem dksX0_room_0 : cX0_room.data.toList.drop 0 = dktX0_room_0 := by decide +kernel
theorem dksX0_room_1 : cX0_room.data.toList.drop 24 = dktX0_room_1 := dk_seg dksX0_room_0 24 rfl rfl
theorem dksX0_room_2 : cX0_room.data.toList.drop 48 = dktX0_room_2 := dk_seg dksX0_room_1 24 rfl rfl
theorem dksX0_room_3 : cX0_room.data.toList.drop 72 = dktX0_room_3 := dk_seg dksX0_room_2 24 rfl rfl
theorem dX0_room_0 : decode cX0_room 0 = .ok (.aload_n 0, 1) := dk_42 (dk_at dksX0_room_0 0 rfl rfl)
theorem dX0_room_1 : decode cX0_room 1 = .ok (.getfield 10, 3) := dk_180 0 10 (dk_at dksX0_room_0 1 rfl rfl)
theorem dX0_room_4 : decode cX0_room 4 = .ok (.iload_n 1, 1) := dk_27 (dk_at dksX0_room_0 4 rfl rfl)
theorem dX0_room_5 : decode cX0_room 5 = .ok (.invokevirtual 72, 3) := dk_182 0 72 (dk_at dksX0_room_0 5 rfl rfl)
theorem dX0_room_8 : decode cX0_room 8 = .ok (.ifCond .ne 5, 3) := dk_154 0 5 (dk_at dksX0_room_0 8 rfl rfl)
theorem dX0_room_11 : decode cX0_room 11 = .ok (.iconst (-1), 1) := dk_2 (dk_at dksX0_room_0 11 rfl rfl)
theorem dX0_room_12 : decode cX0_room 12 = .ok (.ireturn, 1) := dk_172 (dk_at dksX0_room_0 12 rfl rfl)
theorem dX0_room_13 : decode cX0_room 13 = .ok (.aload_n 0, 1) := dk_42 (dk_at dksX0_room_0 13 rfl rfl)
theorem dX0_room_14 : decode cX0_room 14 = .ok (.iload_n 1, 1) := dk_27 (dk_at dksX0_room_0 14 rfl rfl)
theorem dX0_room_15 : decode cX0_room 15 = .ok (.iconst 0, 1) := dk_3 (dk_at dksX0_room_0 15 rfl rfl)
theorem dX0_room_16 : decode cX0_room 16 = .ok (.invokevirtual 306, 3) := dk_182 1 50 (dk_at dksX0_room_0 16 rfl rfl)
theorem dX0_room_19 : decode cX0_room 19 = .ok (.ifCond .ne 6, 3) := dk_154 0 6 (dk_at dksX0_room_0 19 rfl rfl)
theorem dX0_room_22 : decode cX0_room 22 = .ok (.bipush (-2), 2) := dk_16 254 (dk_at dksX0_room_0 22 rfl rfl)
theorem dX0_room_24 : decode cX0_room 24 = .ok (.ireturn, 1) := dk_172 (dk_at dksX0_room_1 0 rfl rfl)
theorem dX0_room_25 : decode cX0_room 25 = .ok (.iconst 0, 1) := dk_3 (dk_at dksX0_room_1 1 rfl rfl)
theorem dX0_room_26 : decode cX0_room 26 = .ok (.istore_n 2, 1) := dk_61 (dk_at dksX0_room_1 2 rfl rfl)
theorem dX0_room_27 : decode cX0_room 27 = .ok (.aload_n 0, 1) := dk_42 (dk_at dksX0_room_1 3 rfl rfl)
theorem dX0_room_28 : decode cX0_room 28 = .ok (.getfield 10, 3) := dk_180 0 10 (dk_at dksX0_room_1 4 rfl rfl)
theorem dX0_room_31 : decode cX0_room 31 = .ok (.getfield 67, 3) := dk_180 0 67 (dk_at dksX0_room_1 7 rfl rfl)
theorem dX0_room_34 : decode cX0_room 34 = .ok (.iload_n 1, 1) := dk_27 (dk_at dksX0_room_1 10 rfl rfl)
theorem dX0_room_35 : decode cX0_room 35 = .ok (.aaload, 1) := dk_50 (dk_at dksX0_room_1 11 rfl rfl)
theorem dX0_room_36 : decode cX0_room 36 = .ok (.iconst 0, 1) := dk_3 (dk_at dksX0_room_1 12 rfl rfl)
theorem dX0_room_37 : decode cX0_room 37 = .ok (.iaload, 1) := dk_46 (dk_at dksX0_room_1 13 rfl rfl)
theorem dX0_room_38 : decode cX0_room 38 = .ok (.istore_n 3, 1) := dk_62 (dk_at dksX0_room_1 14 rfl rfl)
theorem dX0_room_39 : decode cX0_room 39 = .ok (.iload_n 2, 1) := dk_28 (dk_at dksX0_room_1 15 rfl rfl)
theorem dX0_room_40 : decode cX0_room 40 = .ok (.iload_n 3, 1) := dk_29 (dk_at dksX0_room_1 16 rfl rfl)
theorem dX0_room_41 : decode cX0_room 41 = .ok (.if_icmp .ge 37, 3) := dk_162 0 37 (dk_at dksX0_room_1 17 rfl rfl)
theorem dX0_room_44 : decode cX0_room 44 = .ok (.iload_n 2, 1) := dk_28 (dk_at dksX0_room_1 20 rfl rfl)
theorem dX0_room_45 : decode cX0_room 45 = .ok (.iload_n 3, 1) := dk_29 (dk_at dksX0_room_1 21 rfl rfl)
theorem dX0_room_46 : decode cX0_room 46 = .ok (.iadd, 1) := dk_96 (dk_at dksX0_room_1 22 rfl rfl)
theorem dX0_room_47 : decode cX0_room 47 = .ok (.iconst 1, 1) := dk_4 (dk_at dksX0_room_1 23 rfl rfl)
theorem dX0_room_48 : decode cX0_room 48 = .ok (.iadd, 1) := dk_96 (dk_at dksX0_room_2 0 rfl rfl)
theorem dX0_room_49 : decode cX0_room 49 = .ok (.iconst 1, 1) := dk_4 (dk_at dksX0_room_2 1 rfl rfl)
theorem dX0_room_50 : decode cX0_room 50 = .ok (.iushr, 1) := dk_124 (dk_at dksX0_room_2 2 rfl rfl)
theorem dX0_room_51 : decode cX0_room 51 = .ok (.istore 4, 2) := dk_54 4 (dk_at dksX0_room_2 3 rfl rfl)
theorem dX0_room_53 : decode cX0_room 53 = .ok (.aload_n 0, 1) := dk_42 (dk_at dksX0_room_2 5 rfl rfl)
theorem dX0_room_54 : decode cX0_room 54 = .ok (.iload_n 1, 1) := dk_27 (dk_at dksX0_room_2 6 rfl rfl)
theorem dX0_room_55 : decode cX0_room 55 = .ok (.iload 4, 2) := dk_21 4 (dk_at dksX0_room_2 7 rfl rfl)
theorem dX0_room_57 : decode cX0_room 57 = .ok (.ineg, 1) := dk_116 (dk_at dksX0_room_2 9 rfl rfl)
theorem dX0_room_58 : decode cX0_room 58 = .ok (.invokevirtual 306, 3) := dk_182 1 50 (dk_at dksX0_room_2 10 rfl rfl)
theorem dX0_room_61 : decode cX0_room 61 = .ok (.ifCond .eq 9, 3) := dk_153 0 9 (dk_at dksX0_room_2 13 rfl rfl)
theorem dX0_room_64 : decode cX0_room 64 = .ok (.iload 4, 2) := dk_21 4 (dk_at dksX0_room_2 16 rfl rfl)
theorem dX0_room_66 : decode cX0_room 66 = .ok (.istore_n 2, 1) := dk_61 (dk_at dksX0_room_2 18 rfl rfl)
theorem dX0_room_67 : decode cX0_room 67 = .ok (.goto 8, 3) := dk_167 0 8 (dk_at dksX0_room_2 19 rfl rfl)
theorem dX0_room_70 : decode cX0_room 70 = .ok (.iload 4, 2) := dk_21 4 (dk_at dksX0_room_2 22 rfl rfl)
theorem dX0_room_72 : decode cX0_room 72 = .ok (.iconst 1, 1) := dk_4 (dk_at dksX0_room_3 0 rfl rfl)
theorem dX0_room_73 : decode cX0_room 73 = .ok (.isub, 1) := dk_100 (dk_at dksX0_room_3 1 rfl rfl)
theorem dX0_room_74 : decode cX0_room 74 = .ok (.istore_n 3, 1) := dk_62 (dk_at dksX0_room_3 2 rfl rfl)
theorem dX0_room_75 : decode cX0_room 75 = .ok (.goto (-36), 3) := dk_167 255 220 (dk_at dksX0_room_3 3 rfl rfl)
theorem dX0_room_78 : decode cX0_room 78 = .ok (.iload_n 2, 1) := dk_28 (dk_at dksX0_room_3 6 rfl rfl)
theorem dX0_room_79 : decode cX0_room 79 = .ok (.ireturn, 1) := dk_172 (dk_at dksX0_room_3 7 rfl rfl)
def dkwX0_stress_1 : List UInt8 := [2, 172, 42, 180, 0, 10, 182, 0, 35, 78, 45, 42, 45, 27, 182, 1, 94, 28, 182, 0, 206, 172]
abbrev dktX0_stress_1 : List UInt8 := dkwX0_stress_1 ++ []
def dkwX0_stress_0 : List UInt8 := [27, 133, 9, 20, 1, 92, 184, 0, 45, 153, 0, 15, 28, 133, 9, 20, 0, 200, 184, 0, 45, 154, 0, 5]
abbrev dktX0_stress_0 : List UInt8 := dkwX0_stress_0 ++ dktX0_stress_1
theorem dksX0_stress_0 : cX0_stress.data.toList.drop 0 = dktX0_stress_0 := by decide +kernel
theorem dksX0_stress_1 : cX0_stress.data.toList.drop 24 = dktX0_stress_1 := dk_seg dksX0_stress_0 24 rfl rfl
theorem dX0_stress_0 : decode cX0_stress 0 = .ok (.iload_n 1, 1) := dk_27 (dk_at dksX0_stress_0 0 rfl rfl)
theorem dX0_stress_1 : decode cX0_stress 1 = .ok (.i2l, 1) := dk_133 (dk_at dksX0_stress_0 1 rfl rfl)
theorem dX0_stress_2 : decode cX0_stress 2 = .ok (.lconst 0, 1) := dk_9 (dk_at dksX0_stress_0 2 rfl rfl)
theorem dX0_stress_3 : decode cX0_stress 3 = .ok (.ldc2_w 348, 3) := dk_20 1 92 (dk_at dksX0_stress_0 3 rfl rfl)
theorem dX0_stress_6 : decode cX0_stress 6 = .ok (.invokestatic 45, 3) := dk_184 0 45 (dk_at dksX0_stress_0 6 rfl rfl)
theorem dX0_stress_9 : decode cX0_stress 9 = .ok (.ifCond .eq 15, 3) := dk_153 0 15 (dk_at dksX0_stress_0 9 rfl rfl)
theorem dX0_stress_12 : decode cX0_stress 12 = .ok (.iload_n 2, 1) := dk_28 (dk_at dksX0_stress_0 12 rfl rfl)
theorem dX0_stress_13 : decode cX0_stress 13 = .ok (.i2l, 1) := dk_133 (dk_at dksX0_stress_0 13 rfl rfl)
theorem dX0_stress_14 : decode cX0_stress 14 = .ok (.lconst 0, 1) := dk_9 (dk_at dksX0_stress_0 14 rfl rfl)
theorem dX0_stress_15 : decode cX0_stress 15 = .ok (.ldc2_w 200, 3) := dk_20 0 200 (dk_at dksX0_stress_0 15 rfl rfl)
theorem dX0_stress_18 : decode cX0_stress 18 = .ok (.invokestatic 45, 3) := dk_184 0 45 (dk_at dksX0_stress_0 18 rfl rfl)
theorem dX0_stress_21 : decode cX0_stress 21 = .ok (.ifCond .ne 5, 3) := dk_154 0 5 (dk_at dksX0_stress_0 21 rfl rfl)
theorem dX0_stress_24 : decode cX0_stress 24 = .ok (.iconst (-1), 1) := dk_2 (dk_at dksX0_stress_1 0 rfl rfl)
theorem dX0_stress_25 : decode cX0_stress 25 = .ok (.ireturn, 1) := dk_172 (dk_at dksX0_stress_1 1 rfl rfl)
theorem dX0_stress_26 : decode cX0_stress 26 = .ok (.aload_n 0, 1) := dk_42 (dk_at dksX0_stress_1 2 rfl rfl)
theorem dX0_stress_27 : decode cX0_stress 27 = .ok (.getfield 10, 3) := dk_180 0 10 (dk_at dksX0_stress_1 3 rfl rfl)
theorem dX0_stress_30 : decode cX0_stress 30 = .ok (.invokevirtual 35, 3) := dk_182 0 35 (dk_at dksX0_stress_1 6 rfl rfl)
theorem dX0_stress_33 : decode cX0_stress 33 = .ok (.astore_n 3, 1) := dk_78 (dk_at dksX0_stress_1 9 rfl rfl)
theorem dX0_stress_34 : decode cX0_stress 34 = .ok (.aload_n 3, 1) := dk_45 (dk_at dksX0_stress_1 10 rfl rfl)
theorem dX0_stress_35 : decode cX0_stress 35 = .ok (.aload_n 0, 1) := dk_42 (dk_at dksX0_stress_1 11 rfl rfl)
theorem dX0_stress_36 : decode cX0_stress 36 = .ok (.aload_n 3, 1) := dk_45 (dk_at dksX0_stress_1 12 rfl rfl)
theorem dX0_stress_37 : decode cX0_stress 37 = .ok (.iload_n 1, 1) := dk_27 (dk_at dksX0_stress_1 13 rfl rfl)
theorem dX0_stress_38 : decode cX0_stress 38 = .ok (.invokevirtual 350, 3) := dk_182 1 94 (dk_at dksX0_stress_1 14 rfl rfl)
theorem dX0_stress_41 : decode cX0_stress 41 = .ok (.iload_n 2, 1) := dk_28 (dk_at dksX0_stress_1 17 rfl rfl)
theorem dX0_stress_42 : decode cX0_stress 42 = .ok (.invokevirtual 206, 3) := dk_182 0 206 (dk_at dksX0_stress_1 18 rfl rfl)
theorem dX0_stress_45 : decode cX0_stress 45 = .ok (.ireturn, 1) := dk_172 (dk_at dksX0_stress_1 21 rfl rfl)
def dkwX0_stressed_1 : List UInt8 := [29, 50, 3, 46, 28, 104, 16, 100, 108, 79, 132, 3, 1, 167, 255, 221, 43, 182, 0, 141, 176]
abbrev dktX0_stressed_1 : List UInt8 := dkwX0_stressed_1 ++ []
def dkwX0_stressed_0 : List UInt8 := [3, 62, 29, 43, 180, 0, 51, 162, 0, 33, 43, 180, 0, 58, 29, 50, 3, 42, 180, 0, 10, 180, 0, 58]
abbrev dktX0_stressed_0 : List UInt8 := dkwX0_stressed_0 ++ dktX0_stressed_1
theorem dksX0_stressed_0 : cX0_stressed.data.toList.drop 0 = dktX0_stressed_0 := by decide +kernel
theorem dksX0_stressed_1 : cX0_stressed.data.toList.drop 24 = dktX0_stressed_1 := dk_seg dksX0_stressed_0 24 rfl rfl
theorem dX0_stressed_0 : decode cX0_stressed 0 = .ok (.iconst 0, 1) := dk_3 (dk_at dksX0_stressed_0 0 rfl rfl)
theorem dX0_stressed_1 : decode cX0_stressed 1 = .ok (.istore_n 3, 1) := dk_62 (dk_at dksX0_stressed_0 1 rfl rfl)
theorem dX0_stressed_2 : decode cX0_stressed 2 = .ok (.iload_n 3, 1) := dk_29 (dk_at dksX0_stressed_0 2 rfl rfl)
theorem dX0_stressed_3 : decode cX0_stressed 3 = .ok (.aload_n 1, 1) := dk_43 (dk_at dksX0_stressed_0 3 rfl rfl)
theorem dX0_stressed_4 : decode cX0_stressed 4 = .ok (.getfield 51, 3) := dk_180 0 51 (dk_at dksX0_stressed_0 4 rfl rfl)
theorem dX0_stressed_7 : decode cX0_stressed 7 = .ok (.if_icmp .ge 33, 3) := dk_162 0 33 (dk_at dksX0_stressed_0 7 rfl rfl)
theorem dX0_stressed_10 : decode cX0_stressed 10 = .ok (.aload_n 1, 1) := dk_43 (dk_at dksX0_stressed_0 10 rfl rfl)
theorem dX0_stressed_11 : decode cX0_stressed 11 = .ok (.getfield 58, 3) := dk_180 0 58 (dk_at dksX0_stressed_0 11 rfl rfl)
theorem dX0_stressed_14 : decode cX0_stressed 14 = .ok (.iload_n 3, 1) := dk_29 (dk_at dksX0_stressed_0 14 rfl rfl)
theorem dX0_stressed_15 : decode cX0_stressed 15 = .ok (.aaload, 1) := dk_50 (dk_at dksX0_stressed_0 15 rfl rfl)
theorem dX0_stressed_16 : decode cX0_stressed 16 = .ok (.iconst 0, 1) := dk_3 (dk_at dksX0_stressed_0 16 rfl rfl)
theorem dX0_stressed_17 : decode cX0_stressed 17 = .ok (.aload_n 0, 1) := dk_42 (dk_at dksX0_stressed_0 17 rfl rfl)
theorem dX0_stressed_18 : decode cX0_stressed 18 = .ok (.getfield 10, 3) := dk_180 0 10 (dk_at dksX0_stressed_0 18 rfl rfl)
theorem dX0_stressed_21 : decode cX0_stressed 21 = .ok (.getfield 58, 3) := dk_180 0 58 (dk_at dksX0_stressed_0 21 rfl rfl)
theorem dX0_stressed_24 : decode cX0_stressed 24 = .ok (.iload_n 3, 1) := dk_29 (dk_at dksX0_stressed_1 0 rfl rfl)
theorem dX0_stressed_25 : decode cX0_stressed 25 = .ok (.aaload, 1) := dk_50 (dk_at dksX0_stressed_1 1 rfl rfl)
theorem dX0_stressed_26 : decode cX0_stressed 26 = .ok (.iconst 0, 1) := dk_3 (dk_at dksX0_stressed_1 2 rfl rfl)
theorem dX0_stressed_27 : decode cX0_stressed 27 = .ok (.iaload, 1) := dk_46 (dk_at dksX0_stressed_1 3 rfl rfl)
theorem dX0_stressed_28 : decode cX0_stressed 28 = .ok (.iload_n 2, 1) := dk_28 (dk_at dksX0_stressed_1 4 rfl rfl)
theorem dX0_stressed_29 : decode cX0_stressed 29 = .ok (.imul, 1) := dk_104 (dk_at dksX0_stressed_1 5 rfl rfl)
theorem dX0_stressed_30 : decode cX0_stressed 30 = .ok (.bipush 100, 2) := dk_16 100 (dk_at dksX0_stressed_1 6 rfl rfl)
theorem dX0_stressed_32 : decode cX0_stressed 32 = .ok (.idiv, 1) := dk_108 (dk_at dksX0_stressed_1 8 rfl rfl)
theorem dX0_stressed_33 : decode cX0_stressed 33 = .ok (.iastore, 1) := dk_79 (dk_at dksX0_stressed_1 9 rfl rfl)
theorem dX0_stressed_34 : decode cX0_stressed 34 = .ok (.iinc 3 1, 3) := dk_132 3 1 (dk_at dksX0_stressed_1 10 rfl rfl)
theorem dX0_stressed_37 : decode cX0_stressed 37 = .ok (.goto (-35), 3) := dk_167 255 221 (dk_at dksX0_stressed_1 13 rfl rfl)
theorem dX0_stressed_40 : decode cX0_stressed 40 = .ok (.aload_n 1, 1) := dk_43 (dk_at dksX0_stressed_1 16 rfl rfl)
theorem dX0_stressed_41 : decode cX0_stressed 41 = .ok (.invokevirtual 141, 3) := dk_182 0 141 (dk_at dksX0_stressed_1 17 rfl rfl)
theorem dX0_stressed_44 : decode cX0_stressed 44 = .ok (.areturn, 1) := dk_176 (dk_at dksX0_stressed_1 20 rfl rfl)
def dkwX0_fewest_1 : List UInt8 := [180, 0, 145, 154, 0, 5, 28, 172, 132, 2, 1, 167, 255, 233, 16, 254, 172]
abbrev dktX0_fewest_1 : List UInt8 := dkwX0_fewest_1 ++ []
def dkwX0_fewest_0 : List UInt8 := [42, 180, 0, 10, 182, 0, 35, 76, 3, 61, 28, 16, 100, 163, 0, 23, 42, 43, 28, 182, 1, 94]
abbrev dktX0_fewest_0 : List UInt8 := dkwX0_fewest_0 ++ dktX0_fewest_1
theorem dksX0_fewest_0 : cX0_fewest.data.toList.drop 0 = dktX0_fewest_0 := by decide +kernel
theorem dksX0_fewest_1 : cX0_fewest.data.toList.drop 22 = dktX0_fewest_1 := dk_seg dksX0_fewest_0 22 rfl rfl
theorem dX0_fewest_0 : decode cX0_fewest 0 = .ok (.aload_n 0, 1) := dk_42 (dk_at dksX0_fewest_0 0 rfl rfl)
theorem dX0_fewest_1 : decode cX0_fewest 1 = .ok (.getfield 10, 3) := dk_180 0 10 (dk_at dksX0_fewest_0 1 rfl rfl)
theorem dX0_fewest_4 : decode cX0_fewest 4 = .ok (.invokevirtual 35, 3) := dk_182 0 35 (dk_at dksX0_fewest_0 4 rfl rfl)
theorem dX0_fewest_7 : decode cX0_fewest 7 = .ok (.astore_n 1, 1) := dk_76 (dk_at dksX0_fewest_0 7 rfl rfl)
theorem dX0_fewest_8 : decode cX0_fewest 8 = .ok (.iconst 0, 1) := dk_3 (dk_at dksX0_fewest_0 8 rfl rfl)
theorem dX0_fewest_9 : decode cX0_fewest 9 = .ok (.istore_n 2, 1) := dk_61 (dk_at dksX0_fewest_0 9 rfl rfl)
theorem dX0_fewest_10 : decode cX0_fewest 10 = .ok (.iload_n 2, 1) := dk_28 (dk_at dksX0_fewest_0 10 rfl rfl)
theorem dX0_fewest_11 : decode cX0_fewest 11 = .ok (.bipush 100, 2) := dk_16 100 (dk_at dksX0_fewest_0 11 rfl rfl)
theorem dX0_fewest_13 : decode cX0_fewest 13 = .ok (.if_icmp .gt 23, 3) := dk_163 0 23 (dk_at dksX0_fewest_0 13 rfl rfl)
theorem dX0_fewest_16 : decode cX0_fewest 16 = .ok (.aload_n 0, 1) := dk_42 (dk_at dksX0_fewest_0 16 rfl rfl)
theorem dX0_fewest_17 : decode cX0_fewest 17 = .ok (.aload_n 1, 1) := dk_43 (dk_at dksX0_fewest_0 17 rfl rfl)
theorem dX0_fewest_18 : decode cX0_fewest 18 = .ok (.iload_n 2, 1) := dk_28 (dk_at dksX0_fewest_0 18 rfl rfl)
theorem dX0_fewest_19 : decode cX0_fewest 19 = .ok (.invokevirtual 350, 3) := dk_182 1 94 (dk_at dksX0_fewest_0 19 rfl rfl)
theorem dX0_fewest_22 : decode cX0_fewest 22 = .ok (.getfield 145, 3) := dk_180 0 145 (dk_at dksX0_fewest_1 0 rfl rfl)
theorem dX0_fewest_25 : decode cX0_fewest 25 = .ok (.ifCond .ne 5, 3) := dk_154 0 5 (dk_at dksX0_fewest_1 3 rfl rfl)
theorem dX0_fewest_28 : decode cX0_fewest 28 = .ok (.iload_n 2, 1) := dk_28 (dk_at dksX0_fewest_1 6 rfl rfl)
theorem dX0_fewest_29 : decode cX0_fewest 29 = .ok (.ireturn, 1) := dk_172 (dk_at dksX0_fewest_1 7 rfl rfl)
theorem dX0_fewest_30 : decode cX0_fewest 30 = .ok (.iinc 2 1, 3) := dk_132 2 1 (dk_at dksX0_fewest_1 8 rfl rfl)
theorem dX0_fewest_33 : decode cX0_fewest 33 = .ok (.goto (-23), 3) := dk_167 255 233 (dk_at dksX0_fewest_1 11 rfl rfl)
theorem dX0_fewest_36 : decode cX0_fewest 36 = .ok (.bipush (-2), 2) := dk_16 254 (dk_at dksX0_fewest_1 14 rfl rfl)
theorem dX0_fewest_38 : decode cX0_fewest 38 = .ok (.ireturn, 1) := dk_172 (dk_at dksX0_fewest_1 16 rfl rfl)
def dkwX0_doubtful_1 : List UInt8 := [172]
abbrev dktX0_doubtful_1 : List UInt8 := dkwX0_doubtful_1 ++ []
def dkwX0_doubtful_0 : List UInt8 := [42, 180, 0, 10, 5, 182, 0, 202, 180, 0, 145, 42, 180, 0, 10, 182, 0, 141, 180, 0, 145, 2, 130, 126]
abbrev dktX0_doubtful_0 : List UInt8 := dkwX0_doubtful_0 ++ dktX0_doubtful_1
theorem dksX0_doubtful_0 : cX0_doubtful.data.toList.drop 0 = dktX0_doubtful_0 := by decide +kernel
theorem dksX0_doubtful_1 : cX0_doubtful.data.toList.drop 24 = dktX0_doubtful_1 := dk_seg dksX0_doubtful_0 24 rfl rfl
theorem dX0_doubtful_0 : decode cX0_doubtful 0 = .ok (.aload_n 0, 1) := dk_42 (dk_at dksX0_doubtful_0 0 rfl rfl)
theorem dX0_doubtful_1 : decode cX0_doubtful 1 = .ok (.getfield 10, 3) := dk_180 0 10 (dk_at dksX0_doubtful_0 1 rfl rfl)
theorem dX0_doubtful_4 : decode cX0_doubtful 4 = .ok (.iconst 2, 1) := dk_5 (dk_at dksX0_doubtful_0 4 rfl rfl)
theorem dX0_doubtful_5 : decode cX0_doubtful 5 = .ok (.invokevirtual 202, 3) := dk_182 0 202 (dk_at dksX0_doubtful_0 5 rfl rfl)
theorem dX0_doubtful_8 : decode cX0_doubtful 8 = .ok (.getfield 145, 3) := dk_180 0 145 (dk_at dksX0_doubtful_0 8 rfl rfl)
theorem dX0_doubtful_11 : decode cX0_doubtful 11 = .ok (.aload_n 0, 1) := dk_42 (dk_at dksX0_doubtful_0 11 rfl rfl)
theorem dX0_doubtful_12 : decode cX0_doubtful 12 = .ok (.getfield 10, 3) := dk_180 0 10 (dk_at dksX0_doubtful_0 12 rfl rfl)
theorem dX0_doubtful_15 : decode cX0_doubtful 15 = .ok (.invokevirtual 141, 3) := dk_182 0 141 (dk_at dksX0_doubtful_0 15 rfl rfl)
theorem dX0_doubtful_18 : decode cX0_doubtful 18 = .ok (.getfield 145, 3) := dk_180 0 145 (dk_at dksX0_doubtful_0 18 rfl rfl)
theorem dX0_doubtful_21 : decode cX0_doubtful 21 = .ok (.iconst (-1), 1) := dk_2 (dk_at dksX0_doubtful_0 21 rfl rfl)
theorem dX0_doubtful_22 : decode cX0_doubtful 22 = .ok (.ixor, 1) := dk_130 (dk_at dksX0_doubtful_0 22 rfl rfl)
theorem dX0_doubtful_23 : decode cX0_doubtful 23 = .ok (.iand, 1) := dk_126 (dk_at dksX0_doubtful_0 23 rfl rfl)
theorem dX0_doubtful_24 : decode cX0_doubtful 24 = .ok (.ireturn, 1) := dk_172 (dk_at dksX0_doubtful_1 0 rfl rfl)
def dkwX0_spell_1 : List UInt8 := [167, 0, 21, 27, 44, 182, 1, 102, 162, 0, 11, 44, 27, 182, 1, 107, 167, 0, 5, 16, 254, 172]
abbrev dktX0_spell_1 : List UInt8 := dkwX0_spell_1 ++ []
def dkwX0_spell_0 : List UInt8 := [27, 2, 162, 0, 5, 2, 172, 42, 180, 0, 10, 182, 1, 98, 77, 27, 2, 160, 0, 10, 44, 182, 1, 102]
abbrev dktX0_spell_0 : List UInt8 := dkwX0_spell_0 ++ dktX0_spell_1
theorem dksX0_spell_0 : cX0_spell.data.toList.drop 0 = dktX0_spell_0 := by decide +kernel
theorem dksX0_spell_1 : cX0_spell.data.toList.drop 24 = dktX0_spell_1 := dk_seg dksX0_spell_0 24 rfl rfl
theorem dX0_spell_0 : decode cX0_spell 0 = .ok (.iload_n 1, 1) := dk_27 (dk_at dksX0_spell_0 0 rfl rfl)
theorem dX0_spell_1 : decode cX0_spell 1 = .ok (.iconst (-1), 1) := dk_2 (dk_at dksX0_spell_0 1 rfl rfl)
theorem dX0_spell_2 : decode cX0_spell 2 = .ok (.if_icmp .ge 5, 3) := dk_162 0 5 (dk_at dksX0_spell_0 2 rfl rfl)
theorem dX0_spell_5 : decode cX0_spell 5 = .ok (.iconst (-1), 1) := dk_2 (dk_at dksX0_spell_0 5 rfl rfl)
theorem dX0_spell_6 : decode cX0_spell 6 = .ok (.ireturn, 1) := dk_172 (dk_at dksX0_spell_0 6 rfl rfl)
theorem dX0_spell_7 : decode cX0_spell 7 = .ok (.aload_n 0, 1) := dk_42 (dk_at dksX0_spell_0 7 rfl rfl)
theorem dX0_spell_8 : decode cX0_spell 8 = .ok (.getfield 10, 3) := dk_180 0 10 (dk_at dksX0_spell_0 8 rfl rfl)
theorem dX0_spell_11 : decode cX0_spell 11 = .ok (.invokevirtual 354, 3) := dk_182 1 98 (dk_at dksX0_spell_0 11 rfl rfl)
theorem dX0_spell_14 : decode cX0_spell 14 = .ok (.astore_n 2, 1) := dk_77 (dk_at dksX0_spell_0 14 rfl rfl)
theorem dX0_spell_15 : decode cX0_spell 15 = .ok (.iload_n 1, 1) := dk_27 (dk_at dksX0_spell_0 15 rfl rfl)
theorem dX0_spell_16 : decode cX0_spell 16 = .ok (.iconst (-1), 1) := dk_2 (dk_at dksX0_spell_0 16 rfl rfl)
theorem dX0_spell_17 : decode cX0_spell 17 = .ok (.if_icmp .ne 10, 3) := dk_160 0 10 (dk_at dksX0_spell_0 17 rfl rfl)
theorem dX0_spell_20 : decode cX0_spell 20 = .ok (.aload_n 2, 1) := dk_44 (dk_at dksX0_spell_0 20 rfl rfl)
theorem dX0_spell_21 : decode cX0_spell 21 = .ok (.invokevirtual 358, 3) := dk_182 1 102 (dk_at dksX0_spell_0 21 rfl rfl)
theorem dX0_spell_24 : decode cX0_spell 24 = .ok (.goto 21, 3) := dk_167 0 21 (dk_at dksX0_spell_1 0 rfl rfl)
theorem dX0_spell_27 : decode cX0_spell 27 = .ok (.iload_n 1, 1) := dk_27 (dk_at dksX0_spell_1 3 rfl rfl)
theorem dX0_spell_28 : decode cX0_spell 28 = .ok (.aload_n 2, 1) := dk_44 (dk_at dksX0_spell_1 4 rfl rfl)
theorem dX0_spell_29 : decode cX0_spell 29 = .ok (.invokevirtual 358, 3) := dk_182 1 102 (dk_at dksX0_spell_1 5 rfl rfl)
theorem dX0_spell_32 : decode cX0_spell 32 = .ok (.if_icmp .ge 11, 3) := dk_162 0 11 (dk_at dksX0_spell_1 8 rfl rfl)
theorem dX0_spell_35 : decode cX0_spell 35 = .ok (.aload_n 2, 1) := dk_44 (dk_at dksX0_spell_1 11 rfl rfl)
theorem dX0_spell_36 : decode cX0_spell 36 = .ok (.iload_n 1, 1) := dk_27 (dk_at dksX0_spell_1 12 rfl rfl)
theorem dX0_spell_37 : decode cX0_spell 37 = .ok (.invokevirtual 363, 3) := dk_182 1 107 (dk_at dksX0_spell_1 13 rfl rfl)
theorem dX0_spell_40 : decode cX0_spell 40 = .ok (.goto 5, 3) := dk_167 0 5 (dk_at dksX0_spell_1 16 rfl rfl)
theorem dX0_spell_43 : decode cX0_spell 43 = .ok (.bipush (-2), 2) := dk_16 254 (dk_at dksX0_spell_1 19 rfl rfl)
theorem dX0_spell_45 : decode cX0_spell 45 = .ok (.ireturn, 1) := dk_172 (dk_at dksX0_spell_1 21 rfl rfl)
def dkwX0_count_4 : List UInt8 := [172, 42, 180, 0, 10, 182, 1, 117, 172, 2, 172]
abbrev dktX0_count_4 : List UInt8 := dkwX0_count_4 ++ []
def dkwX0_count_3 : List UInt8 := [42, 180, 1, 111, 172, 42, 180, 0, 10, 180, 0, 107, 27, 7, 100, 50, 180, 0, 117, 172, 42, 182, 1, 114]
abbrev dktX0_count_3 : List UInt8 := dkwX0_count_3 ++ dktX0_count_4
def dkwX0_count_2 : List UInt8 := [42, 180, 0, 10, 180, 0, 51, 172, 42, 180, 0, 10, 180, 0, 64, 172, 42, 180, 0, 19, 182, 0, 27, 172]
abbrev dktX0_count_2 : List UInt8 := dkwX0_count_2 ++ dktX0_count_3
def dkwX0_count_1 : List UInt8 := [170, 0, 0, 0, 0, 0, 108, 0, 0, 0, 0, 0, 0, 0, 8, 0, 0, 0, 51, 0, 0, 0, 59, 0, 0, 0, 67, 0, 0, 0, 75, 0, 0, 0, 80, 0, 0, 0, 80, 0, 0, 0, 80, 0, 0, 0, 95, 0, 0, 0, 100]
abbrev dktX0_count_1 : List UInt8 := dkwX0_count_1 ++ dktX0_count_2
def dkwX0_count_0 : List UInt8 := [27]
abbrev dktX0_count_0 : List UInt8 := dkwX0_count_0 ++ dktX0_count_1
theorem dksX0_count_0 : cX0_count.data.toList.drop 0 = dktX0_count_0 := by decide +kernel
theorem dksX0_count_1 : cX0_count.data.toList.drop 1 = dktX0_count_1 := dk_seg dksX0_count_0 1 rfl rfl
theorem dksX0_count_2 : cX0_count.data.toList.drop 52 = dktX0_count_2 := dk_seg dksX0_count_1 51 rfl rfl
theorem dksX0_count_3 : cX0_count.data.toList.drop 76 = dktX0_count_3 := dk_seg dksX0_count_2 24 rfl rfl
theorem dksX0_count_4 : cX0_count.data.toList.drop 100 = dktX0_count_4 := dk_seg dksX0_count_3 24 rfl rfl
theorem dX0_count_0 : decode cX0_count 0 = .ok (.iload_n 1, 1) := dk_27 (dk_at dksX0_count_0 0 rfl rfl)
theorem dX0_count_1 : decode cX0_count 1 = .ok (.tableswitch 108 0 8 #[51, 59, 67, 75, 80, 80, 80, 95, 100], 51) := by decide +kernel
theorem dX0_count_52 : decode cX0_count 52 = .ok (.aload_n 0, 1) := dk_42 (dk_at dksX0_count_2 0 rfl rfl)
theorem dX0_count_53 : decode cX0_count 53 = .ok (.getfield 10, 3) := dk_180 0 10 (dk_at dksX0_count_2 1 rfl rfl)
theorem dX0_count_56 : decode cX0_count 56 = .ok (.getfield 51, 3) := dk_180 0 51 (dk_at dksX0_count_2 4 rfl rfl)
theorem dX0_count_59 : decode cX0_count 59 = .ok (.ireturn, 1) := dk_172 (dk_at dksX0_count_2 7 rfl rfl)
theorem dX0_count_60 : decode cX0_count 60 = .ok (.aload_n 0, 1) := dk_42 (dk_at dksX0_count_2 8 rfl rfl)
theorem dX0_count_61 : decode cX0_count 61 = .ok (.getfield 10, 3) := dk_180 0 10 (dk_at dksX0_count_2 9 rfl rfl)
theorem dX0_count_64 : decode cX0_count 64 = .ok (.getfield 64, 3) := dk_180 0 64 (dk_at dksX0_count_2 12 rfl rfl)
theorem dX0_count_67 : decode cX0_count 67 = .ok (.ireturn, 1) := dk_172 (dk_at dksX0_count_2 15 rfl rfl)
theorem dX0_count_68 : decode cX0_count 68 = .ok (.aload_n 0, 1) := dk_42 (dk_at dksX0_count_2 16 rfl rfl)
theorem dX0_count_69 : decode cX0_count 69 = .ok (.getfield 19, 3) := dk_180 0 19 (dk_at dksX0_count_2 17 rfl rfl)
theorem dX0_count_72 : decode cX0_count 72 = .ok (.invokevirtual 27, 3) := dk_182 0 27 (dk_at dksX0_count_2 20 rfl rfl)
theorem dX0_count_75 : decode cX0_count 75 = .ok (.ireturn, 1) := dk_172 (dk_at dksX0_count_2 23 rfl rfl)
theorem dX0_count_76 : decode cX0_count 76 = .ok (.aload_n 0, 1) := dk_42 (dk_at dksX0_count_3 0 rfl rfl)
theorem dX0_count_77 : decode cX0_count 77 = .ok (.getfield 367, 3) := dk_180 1 111 (dk_at dksX0_count_3 1 rfl rfl)
theorem dX0_count_80 : decode cX0_count 80 = .ok (.ireturn, 1) := dk_172 (dk_at dksX0_count_3 4 rfl rfl)
theorem dX0_count_81 : decode cX0_count 81 = .ok (.aload_n 0, 1) := dk_42 (dk_at dksX0_count_3 5 rfl rfl)
theorem dX0_count_82 : decode cX0_count 82 = .ok (.getfield 10, 3) := dk_180 0 10 (dk_at dksX0_count_3 6 rfl rfl)
theorem dX0_count_85 : decode cX0_count 85 = .ok (.getfield 107, 3) := dk_180 0 107 (dk_at dksX0_count_3 9 rfl rfl)
theorem dX0_count_88 : decode cX0_count 88 = .ok (.iload_n 1, 1) := dk_27 (dk_at dksX0_count_3 12 rfl rfl)
theorem dX0_count_89 : decode cX0_count 89 = .ok (.iconst 4, 1) := dk_7 (dk_at dksX0_count_3 13 rfl rfl)
theorem dX0_count_90 : decode cX0_count 90 = .ok (.isub, 1) := dk_100 (dk_at dksX0_count_3 14 rfl rfl)
theorem dX0_count_91 : decode cX0_count 91 = .ok (.aaload, 1) := dk_50 (dk_at dksX0_count_3 15 rfl rfl)
theorem dX0_count_92 : decode cX0_count 92 = .ok (.getfield 117, 3) := dk_180 0 117 (dk_at dksX0_count_3 16 rfl rfl)
theorem dX0_count_95 : decode cX0_count 95 = .ok (.ireturn, 1) := dk_172 (dk_at dksX0_count_3 19 rfl rfl)
theorem dX0_count_96 : decode cX0_count 96 = .ok (.aload_n 0, 1) := dk_42 (dk_at dksX0_count_3 20 rfl rfl)
theorem dX0_count_97 : decode cX0_count 97 = .ok (.invokevirtual 370, 3) := dk_182 1 114 (dk_at dksX0_count_3 21 rfl rfl)
theorem dX0_count_100 : decode cX0_count 100 = .ok (.ireturn, 1) := dk_172 (dk_at dksX0_count_4 0 rfl rfl)
theorem dX0_count_101 : decode cX0_count 101 = .ok (.aload_n 0, 1) := dk_42 (dk_at dksX0_count_4 1 rfl rfl)
theorem dX0_count_102 : decode cX0_count 102 = .ok (.getfield 10, 3) := dk_180 0 10 (dk_at dksX0_count_4 2 rfl rfl)
theorem dX0_count_105 : decode cX0_count 105 = .ok (.invokevirtual 373, 3) := dk_182 1 117 (dk_at dksX0_count_4 5 rfl rfl)
theorem dX0_count_108 : decode cX0_count 108 = .ok (.ireturn, 1) := dk_172 (dk_at dksX0_count_4 8 rfl rfl)
theorem dX0_count_109 : decode cX0_count 109 = .ok (.iconst (-1), 1) := dk_2 (dk_at dksX0_count_4 9 rfl rfl)
theorem dX0_count_110 : decode cX0_count 110 = .ok (.ireturn, 1) := dk_172 (dk_at dksX0_count_4 10 rfl rfl)
def dkwX0_loanMany_3 : List UInt8 := [167, 255, 226, 132, 4, 1, 167, 255, 196, 27, 172]
abbrev dktX0_loanMany_3 : List UInt8 := dkwX0_loanMany_3 ++ []
def dkwX0_loanMany_2 : List UInt8 := [25, 6, 21, 8, 46, 54, 9, 27, 21, 9, 158, 0, 7, 4, 167, 0, 4, 3, 96, 60, 132, 8, 1]
abbrev dktX0_loanMany_2 : List UInt8 := dkwX0_loanMany_2 ++ dktX0_loanMany_3
def dkwX0_loanMany_1 : List UInt8 := [21, 4, 50, 58, 5, 25, 5, 58, 6, 25, 6, 190, 54, 7, 3, 54, 8, 21, 8, 21, 7, 162, 0, 29]
abbrev dktX0_loanMany_1 : List UInt8 := dkwX0_loanMany_1 ++ dktX0_loanMany_2
def dkwX0_loanMany_0 : List UInt8 := [3, 60, 42, 180, 0, 10, 180, 0, 92, 77, 44, 190, 62, 3, 54, 4, 21, 4, 29, 162, 0, 60, 44]
abbrev dktX0_loanMany_0 : List UInt8 := dkwX0_loanMany_0 ++ dktX0_loanMany_1
theorem dksX0_loanMany_0 : cX0_loanMany.data.toList.drop 0 = dktX0_loanMany_0 := by decide +kernel
theorem dksX0_loanMany_1 : cX0_loanMany.data.toList.drop 23 = dktX0_loanMany_1 := dk_seg dksX0_loanMany_0 23 rfl rfl
theorem dksX0_loanMany_2 : cX0_loanMany.data.toList.drop 47 = dktX0_loanMany_2 := dk_seg dksX0_loanMany_1 24 rfl rfl
theorem dksX0_loanMany_3 : cX0_loanMany.data.toList.drop 70 = dktX0_loanMany_3 := dk_seg dksX0_loanMany_2 23 rfl rfl
theorem dX0_loanMany_0 : decode cX0_loanMany 0 = .ok (.iconst 0, 1) := dk_3 (dk_at dksX0_loanMany_0 0 rfl rfl)
theorem dX0_loanMany_1 : decode cX0_loanMany 1 = .ok (.istore_n 1, 1) := dk_60 (dk_at dksX0_loanMany_0 1 rfl rfl)
theorem dX0_loanMany_2 : decode cX0_loanMany 2 = .ok (.aload_n 0, 1) := dk_42 (dk_at dksX0_loanMany_0 2 rfl rfl)
theorem dX0_loanMany_3 : decode cX0_loanMany 3 = .ok (.getfield 10, 3) := dk_180 0 10 (dk_at dksX0_loanMany_0 3 rfl rfl)
theorem dX0_loanMany_6 : decode cX0_loanMany 6 = .ok (.getfield 92, 3) := dk_180 0 92 (dk_at dksX0_loanMany_0 6 rfl rfl)
theorem dX0_loanMany_9 : decode cX0_loanMany 9 = .ok (.astore_n 2, 1) := dk_77 (dk_at dksX0_loanMany_0 9 rfl rfl)
theorem dX0_loanMany_10 : decode cX0_loanMany 10 = .ok (.aload_n 2, 1) := dk_44 (dk_at dksX0_loanMany_0 10 rfl rfl)
theorem dX0_loanMany_11 : decode cX0_loanMany 11 = .ok (.arraylength, 1) := dk_190 (dk_at dksX0_loanMany_0 11 rfl rfl)
theorem dX0_loanMany_12 : decode cX0_loanMany 12 = .ok (.istore_n 3, 1) := dk_62 (dk_at dksX0_loanMany_0 12 rfl rfl)
theorem dX0_loanMany_13 : decode cX0_loanMany 13 = .ok (.iconst 0, 1) := dk_3 (dk_at dksX0_loanMany_0 13 rfl rfl)
theorem dX0_loanMany_14 : decode cX0_loanMany 14 = .ok (.istore 4, 2) := dk_54 4 (dk_at dksX0_loanMany_0 14 rfl rfl)
theorem dX0_loanMany_16 : decode cX0_loanMany 16 = .ok (.iload 4, 2) := dk_21 4 (dk_at dksX0_loanMany_0 16 rfl rfl)
theorem dX0_loanMany_18 : decode cX0_loanMany 18 = .ok (.iload_n 3, 1) := dk_29 (dk_at dksX0_loanMany_0 18 rfl rfl)
theorem dX0_loanMany_19 : decode cX0_loanMany 19 = .ok (.if_icmp .ge 60, 3) := dk_162 0 60 (dk_at dksX0_loanMany_0 19 rfl rfl)
theorem dX0_loanMany_22 : decode cX0_loanMany 22 = .ok (.aload_n 2, 1) := dk_44 (dk_at dksX0_loanMany_0 22 rfl rfl)
theorem dX0_loanMany_23 : decode cX0_loanMany 23 = .ok (.iload 4, 2) := dk_21 4 (dk_at dksX0_loanMany_1 0 rfl rfl)
theorem dX0_loanMany_25 : decode cX0_loanMany 25 = .ok (.aaload, 1) := dk_50 (dk_at dksX0_loanMany_1 2 rfl rfl)
theorem dX0_loanMany_26 : decode cX0_loanMany 26 = .ok (.astore 5, 2) := dk_58 5 (dk_at dksX0_loanMany_1 3 rfl rfl)
theorem dX0_loanMany_28 : decode cX0_loanMany 28 = .ok (.aload 5, 2) := dk_25 5 (dk_at dksX0_loanMany_1 5 rfl rfl)
theorem dX0_loanMany_30 : decode cX0_loanMany 30 = .ok (.astore 6, 2) := dk_58 6 (dk_at dksX0_loanMany_1 7 rfl rfl)
theorem dX0_loanMany_32 : decode cX0_loanMany 32 = .ok (.aload 6, 2) := dk_25 6 (dk_at dksX0_loanMany_1 9 rfl rfl)
theorem dX0_loanMany_34 : decode cX0_loanMany 34 = .ok (.arraylength, 1) := dk_190 (dk_at dksX0_loanMany_1 11 rfl rfl)
theorem dX0_loanMany_35 : decode cX0_loanMany 35 = .ok (.istore 7, 2) := dk_54 7 (dk_at dksX0_loanMany_1 12 rfl rfl)
theorem dX0_loanMany_37 : decode cX0_loanMany 37 = .ok (.iconst 0, 1) := dk_3 (dk_at dksX0_loanMany_1 14 rfl rfl)
theorem dX0_loanMany_38 : decode cX0_loanMany 38 = .ok (.istore 8, 2) := dk_54 8 (dk_at dksX0_loanMany_1 15 rfl rfl)
theorem dX0_loanMany_40 : decode cX0_loanMany 40 = .ok (.iload 8, 2) := dk_21 8 (dk_at dksX0_loanMany_1 17 rfl rfl)
theorem dX0_loanMany_42 : decode cX0_loanMany 42 = .ok (.iload 7, 2) := dk_21 7 (dk_at dksX0_loanMany_1 19 rfl rfl)
theorem dX0_loanMany_44 : decode cX0_loanMany 44 = .ok (.if_icmp .ge 29, 3) := dk_162 0 29 (dk_at dksX0_loanMany_1 21 rfl rfl)
theorem dX0_loanMany_47 : decode cX0_loanMany 47 = .ok (.aload 6, 2) := dk_25 6 (dk_at dksX0_loanMany_2 0 rfl rfl)
theorem dX0_loanMany_49 : decode cX0_loanMany 49 = .ok (.iload 8, 2) := dk_21 8 (dk_at dksX0_loanMany_2 2 rfl rfl)
theorem dX0_loanMany_51 : decode cX0_loanMany 51 = .ok (.iaload, 1) := dk_46 (dk_at dksX0_loanMany_2 4 rfl rfl)
theorem dX0_loanMany_52 : decode cX0_loanMany 52 = .ok (.istore 9, 2) := dk_54 9 (dk_at dksX0_loanMany_2 5 rfl rfl)
theorem dX0_loanMany_54 : decode cX0_loanMany 54 = .ok (.iload_n 1, 1) := dk_27 (dk_at dksX0_loanMany_2 7 rfl rfl)
theorem dX0_loanMany_55 : decode cX0_loanMany 55 = .ok (.iload 9, 2) := dk_21 9 (dk_at dksX0_loanMany_2 8 rfl rfl)
theorem dX0_loanMany_57 : decode cX0_loanMany 57 = .ok (.ifCond .le 7, 3) := dk_158 0 7 (dk_at dksX0_loanMany_2 10 rfl rfl)
theorem dX0_loanMany_60 : decode cX0_loanMany 60 = .ok (.iconst 1, 1) := dk_4 (dk_at dksX0_loanMany_2 13 rfl rfl)
theorem dX0_loanMany_61 : decode cX0_loanMany 61 = .ok (.goto 4, 3) := dk_167 0 4 (dk_at dksX0_loanMany_2 14 rfl rfl)
theorem dX0_loanMany_64 : decode cX0_loanMany 64 = .ok (.iconst 0, 1) := dk_3 (dk_at dksX0_loanMany_2 17 rfl rfl)
theorem dX0_loanMany_65 : decode cX0_loanMany 65 = .ok (.iadd, 1) := dk_96 (dk_at dksX0_loanMany_2 18 rfl rfl)
theorem dX0_loanMany_66 : decode cX0_loanMany 66 = .ok (.istore_n 1, 1) := dk_60 (dk_at dksX0_loanMany_2 19 rfl rfl)
theorem dX0_loanMany_67 : decode cX0_loanMany 67 = .ok (.iinc 8 1, 3) := dk_132 8 1 (dk_at dksX0_loanMany_2 20 rfl rfl)
theorem dX0_loanMany_70 : decode cX0_loanMany 70 = .ok (.goto (-30), 3) := dk_167 255 226 (dk_at dksX0_loanMany_3 0 rfl rfl)
theorem dX0_loanMany_73 : decode cX0_loanMany 73 = .ok (.iinc 4 1, 3) := dk_132 4 1 (dk_at dksX0_loanMany_3 3 rfl rfl)
theorem dX0_loanMany_76 : decode cX0_loanMany 76 = .ok (.goto (-60), 3) := dk_167 255 196 (dk_at dksX0_loanMany_3 6 rfl rfl)
theorem dX0_loanMany_79 : decode cX0_loanMany 79 = .ok (.iload_n 1, 1) := dk_27 (dk_at dksX0_loanMany_3 9 rfl rfl)
theorem dX0_loanMany_80 : decode cX0_loanMany 80 = .ok (.ireturn, 1) := dk_172 (dk_at dksX0_loanMany_3 10 rfl rfl)
def dkwX0_feed_1 : List UInt8 := [89, 5, 29, 79, 89, 6, 21, 4, 79, 89, 7, 21, 5, 79, 182, 1, 120, 42, 180, 1, 111, 172]
abbrev dktX0_feed_1 : List UInt8 := dkwX0_feed_1 ++ []
def dkwX0_feed_0 : List UInt8 := [42, 180, 1, 111, 17, 3, 12, 164, 0, 5, 2, 172, 42, 8, 188, 10, 89, 3, 27, 79, 89, 4, 28, 79]
abbrev dktX0_feed_0 : List UInt8 := dkwX0_feed_0 ++ dktX0_feed_1
theorem dksX0_feed_0 : cX0_feed.data.toList.drop 0 = dktX0_feed_0 := by decide +kernel
theorem dksX0_feed_1 : cX0_feed.data.toList.drop 24 = dktX0_feed_1 := dk_seg dksX0_feed_0 24 rfl rfl
theorem dX0_feed_0 : decode cX0_feed 0 = .ok (.aload_n 0, 1) := dk_42 (dk_at dksX0_feed_0 0 rfl rfl)
theorem dX0_feed_1 : decode cX0_feed 1 = .ok (.getfield 367, 3) := dk_180 1 111 (dk_at dksX0_feed_0 1 rfl rfl)
theorem dX0_feed_4 : decode cX0_feed 4 = .ok (.sipush 780, 3) := dk_17 3 12 (dk_at dksX0_feed_0 4 rfl rfl)
theorem dX0_feed_7 : decode cX0_feed 7 = .ok (.if_icmp .le 5, 3) := dk_164 0 5 (dk_at dksX0_feed_0 7 rfl rfl)
theorem dX0_feed_10 : decode cX0_feed 10 = .ok (.iconst (-1), 1) := dk_2 (dk_at dksX0_feed_0 10 rfl rfl)
theorem dX0_feed_11 : decode cX0_feed 11 = .ok (.ireturn, 1) := dk_172 (dk_at dksX0_feed_0 11 rfl rfl)
theorem dX0_feed_12 : decode cX0_feed 12 = .ok (.aload_n 0, 1) := dk_42 (dk_at dksX0_feed_0 12 rfl rfl)
theorem dX0_feed_13 : decode cX0_feed 13 = .ok (.iconst 5, 1) := dk_8 (dk_at dksX0_feed_0 13 rfl rfl)
theorem dX0_feed_14 : decode cX0_feed 14 = .ok (.newarray .int, 2) := dk_188_10 (dk_at dksX0_feed_0 14 rfl rfl)
theorem dX0_feed_16 : decode cX0_feed 16 = .ok (.dup, 1) := dk_89 (dk_at dksX0_feed_0 16 rfl rfl)
theorem dX0_feed_17 : decode cX0_feed 17 = .ok (.iconst 0, 1) := dk_3 (dk_at dksX0_feed_0 17 rfl rfl)
theorem dX0_feed_18 : decode cX0_feed 18 = .ok (.iload_n 1, 1) := dk_27 (dk_at dksX0_feed_0 18 rfl rfl)
theorem dX0_feed_19 : decode cX0_feed 19 = .ok (.iastore, 1) := dk_79 (dk_at dksX0_feed_0 19 rfl rfl)
theorem dX0_feed_20 : decode cX0_feed 20 = .ok (.dup, 1) := dk_89 (dk_at dksX0_feed_0 20 rfl rfl)
theorem dX0_feed_21 : decode cX0_feed 21 = .ok (.iconst 1, 1) := dk_4 (dk_at dksX0_feed_0 21 rfl rfl)
theorem dX0_feed_22 : decode cX0_feed 22 = .ok (.iload_n 2, 1) := dk_28 (dk_at dksX0_feed_0 22 rfl rfl)
theorem dX0_feed_23 : decode cX0_feed 23 = .ok (.iastore, 1) := dk_79 (dk_at dksX0_feed_0 23 rfl rfl)
theorem dX0_feed_24 : decode cX0_feed 24 = .ok (.dup, 1) := dk_89 (dk_at dksX0_feed_1 0 rfl rfl)
theorem dX0_feed_25 : decode cX0_feed 25 = .ok (.iconst 2, 1) := dk_5 (dk_at dksX0_feed_1 1 rfl rfl)
theorem dX0_feed_26 : decode cX0_feed 26 = .ok (.iload_n 3, 1) := dk_29 (dk_at dksX0_feed_1 2 rfl rfl)
theorem dX0_feed_27 : decode cX0_feed 27 = .ok (.iastore, 1) := dk_79 (dk_at dksX0_feed_1 3 rfl rfl)
theorem dX0_feed_28 : decode cX0_feed 28 = .ok (.dup, 1) := dk_89 (dk_at dksX0_feed_1 4 rfl rfl)
theorem dX0_feed_29 : decode cX0_feed 29 = .ok (.iconst 3, 1) := dk_6 (dk_at dksX0_feed_1 5 rfl rfl)
theorem dX0_feed_30 : decode cX0_feed 30 = .ok (.iload 4, 2) := dk_21 4 (dk_at dksX0_feed_1 6 rfl rfl)
theorem dX0_feed_32 : decode cX0_feed 32 = .ok (.iastore, 1) := dk_79 (dk_at dksX0_feed_1 8 rfl rfl)
theorem dX0_feed_33 : decode cX0_feed 33 = .ok (.dup, 1) := dk_89 (dk_at dksX0_feed_1 9 rfl rfl)
theorem dX0_feed_34 : decode cX0_feed 34 = .ok (.iconst 4, 1) := dk_7 (dk_at dksX0_feed_1 10 rfl rfl)
theorem dX0_feed_35 : decode cX0_feed 35 = .ok (.iload 5, 2) := dk_21 5 (dk_at dksX0_feed_1 11 rfl rfl)
theorem dX0_feed_37 : decode cX0_feed 37 = .ok (.iastore, 1) := dk_79 (dk_at dksX0_feed_1 13 rfl rfl)
theorem dX0_feed_38 : decode cX0_feed 38 = .ok (.invokevirtual 376, 3) := dk_182 1 120 (dk_at dksX0_feed_1 14 rfl rfl)
theorem dX0_feed_41 : decode cX0_feed 41 = .ok (.aload_n 0, 1) := dk_42 (dk_at dksX0_feed_1 17 rfl rfl)
theorem dX0_feed_42 : decode cX0_feed 42 = .ok (.getfield 367, 3) := dk_180 1 111 (dk_at dksX0_feed_1 18 rfl rfl)
theorem dX0_feed_45 : decode cX0_feed 45 = .ok (.ireturn, 1) := dk_172 (dk_at dksX0_feed_1 21 rfl rfl)
def dkwX0_lays_2 : List UInt8 := [180, 1, 111, 4, 96, 181, 1, 111, 132, 6, 248, 167, 255, 223, 132, 4, 1, 167, 255, 201, 177]
abbrev dktX0_lays_2 : List UInt8 := dkwX0_lays_2 ++ []
def dkwX0_lays_1 : List UInt8 := [21, 6, 155, 0, 34, 42, 180, 0, 23, 42, 180, 1, 111, 21, 5, 21, 6, 122, 145, 84, 42, 89]
abbrev dktX0_lays_1 : List UInt8 := dkwX0_lays_1 ++ dktX0_lays_2
def dkwX0_lays_0 : List UInt8 := [43, 77, 44, 190, 62, 3, 54, 4, 21, 4, 29, 162, 0, 55, 44, 21, 4, 46, 54, 5, 16, 24, 54, 6]
abbrev dktX0_lays_0 : List UInt8 := dkwX0_lays_0 ++ dktX0_lays_1
theorem dksX0_lays_0 : cX0_lays.data.toList.drop 0 = dktX0_lays_0 := by decide +kernel
theorem dksX0_lays_1 : cX0_lays.data.toList.drop 24 = dktX0_lays_1 := dk_seg dksX0_lays_0 24 rfl rfl
theorem dksX0_lays_2 : cX0_lays.data.toList.drop 46 = dktX0_lays_2 := dk_seg dksX0_lays_1 22 rfl rfl
theorem dX0_lays_0 : decode cX0_lays 0 = .ok (.aload_n 1, 1) := dk_43 (dk_at dksX0_lays_0 0 rfl rfl)
theorem dX0_lays_1 : decode cX0_lays 1 = .ok (.astore_n 2, 1) := dk_77 (dk_at dksX0_lays_0 1 rfl rfl)
theorem dX0_lays_2 : decode cX0_lays 2 = .ok (.aload_n 2, 1) := dk_44 (dk_at dksX0_lays_0 2 rfl rfl)
theorem dX0_lays_3 : decode cX0_lays 3 = .ok (.arraylength, 1) := dk_190 (dk_at dksX0_lays_0 3 rfl rfl)
theorem dX0_lays_4 : decode cX0_lays 4 = .ok (.istore_n 3, 1) := dk_62 (dk_at dksX0_lays_0 4 rfl rfl)
theorem dX0_lays_5 : decode cX0_lays 5 = .ok (.iconst 0, 1) := dk_3 (dk_at dksX0_lays_0 5 rfl rfl)
theorem dX0_lays_6 : decode cX0_lays 6 = .ok (.istore 4, 2) := dk_54 4 (dk_at dksX0_lays_0 6 rfl rfl)
theorem dX0_lays_8 : decode cX0_lays 8 = .ok (.iload 4, 2) := dk_21 4 (dk_at dksX0_lays_0 8 rfl rfl)
theorem dX0_lays_10 : decode cX0_lays 10 = .ok (.iload_n 3, 1) := dk_29 (dk_at dksX0_lays_0 10 rfl rfl)
theorem dX0_lays_11 : decode cX0_lays 11 = .ok (.if_icmp .ge 55, 3) := dk_162 0 55 (dk_at dksX0_lays_0 11 rfl rfl)
theorem dX0_lays_14 : decode cX0_lays 14 = .ok (.aload_n 2, 1) := dk_44 (dk_at dksX0_lays_0 14 rfl rfl)
theorem dX0_lays_15 : decode cX0_lays 15 = .ok (.iload 4, 2) := dk_21 4 (dk_at dksX0_lays_0 15 rfl rfl)
theorem dX0_lays_17 : decode cX0_lays 17 = .ok (.iaload, 1) := dk_46 (dk_at dksX0_lays_0 17 rfl rfl)
theorem dX0_lays_18 : decode cX0_lays 18 = .ok (.istore 5, 2) := dk_54 5 (dk_at dksX0_lays_0 18 rfl rfl)
theorem dX0_lays_20 : decode cX0_lays 20 = .ok (.bipush 24, 2) := dk_16 24 (dk_at dksX0_lays_0 20 rfl rfl)
theorem dX0_lays_22 : decode cX0_lays 22 = .ok (.istore 6, 2) := dk_54 6 (dk_at dksX0_lays_0 22 rfl rfl)
theorem dX0_lays_24 : decode cX0_lays 24 = .ok (.iload 6, 2) := dk_21 6 (dk_at dksX0_lays_1 0 rfl rfl)
theorem dX0_lays_26 : decode cX0_lays 26 = .ok (.ifCond .lt 34, 3) := dk_155 0 34 (dk_at dksX0_lays_1 2 rfl rfl)
theorem dX0_lays_29 : decode cX0_lays 29 = .ok (.aload_n 0, 1) := dk_42 (dk_at dksX0_lays_1 5 rfl rfl)
theorem dX0_lays_30 : decode cX0_lays 30 = .ok (.getfield 23, 3) := dk_180 0 23 (dk_at dksX0_lays_1 6 rfl rfl)
theorem dX0_lays_33 : decode cX0_lays 33 = .ok (.aload_n 0, 1) := dk_42 (dk_at dksX0_lays_1 9 rfl rfl)
theorem dX0_lays_34 : decode cX0_lays 34 = .ok (.getfield 367, 3) := dk_180 1 111 (dk_at dksX0_lays_1 10 rfl rfl)
theorem dX0_lays_37 : decode cX0_lays 37 = .ok (.iload 5, 2) := dk_21 5 (dk_at dksX0_lays_1 13 rfl rfl)
theorem dX0_lays_39 : decode cX0_lays 39 = .ok (.iload 6, 2) := dk_21 6 (dk_at dksX0_lays_1 15 rfl rfl)
theorem dX0_lays_41 : decode cX0_lays 41 = .ok (.ishr, 1) := dk_122 (dk_at dksX0_lays_1 17 rfl rfl)
theorem dX0_lays_42 : decode cX0_lays 42 = .ok (.i2b, 1) := dk_145 (dk_at dksX0_lays_1 18 rfl rfl)
theorem dX0_lays_43 : decode cX0_lays 43 = .ok (.bastore, 1) := dk_84 (dk_at dksX0_lays_1 19 rfl rfl)
theorem dX0_lays_44 : decode cX0_lays 44 = .ok (.aload_n 0, 1) := dk_42 (dk_at dksX0_lays_1 20 rfl rfl)
theorem dX0_lays_45 : decode cX0_lays 45 = .ok (.dup, 1) := dk_89 (dk_at dksX0_lays_1 21 rfl rfl)
theorem dX0_lays_46 : decode cX0_lays 46 = .ok (.getfield 367, 3) := dk_180 1 111 (dk_at dksX0_lays_2 0 rfl rfl)
theorem dX0_lays_49 : decode cX0_lays 49 = .ok (.iconst 1, 1) := dk_4 (dk_at dksX0_lays_2 3 rfl rfl)
theorem dX0_lays_50 : decode cX0_lays 50 = .ok (.iadd, 1) := dk_96 (dk_at dksX0_lays_2 4 rfl rfl)
theorem dX0_lays_51 : decode cX0_lays 51 = .ok (.putfield 367, 3) := dk_181 1 111 (dk_at dksX0_lays_2 5 rfl rfl)
theorem dX0_lays_54 : decode cX0_lays 54 = .ok (.iinc 6 (-8), 3) := dk_132 6 248 (dk_at dksX0_lays_2 8 rfl rfl)
theorem dX0_lays_57 : decode cX0_lays 57 = .ok (.goto (-33), 3) := dk_167 255 223 (dk_at dksX0_lays_2 11 rfl rfl)
theorem dX0_lays_60 : decode cX0_lays 60 = .ok (.iinc 4 1, 3) := dk_132 4 1 (dk_at dksX0_lays_2 14 rfl rfl)
theorem dX0_lays_63 : decode cX0_lays 63 = .ok (.goto (-55), 3) := dk_167 255 201 (dk_at dksX0_lays_2 17 rfl rfl)
theorem dX0_lays_66 : decode cX0_lays 66 = .ok (.return_, 1) := dk_177 (dk_at dksX0_lays_2 20 rfl rfl)
def dkwX0_back_1 : List UInt8 := [181, 1, 111, 42, 180, 1, 111, 172]
abbrev dktX0_back_1 : List UInt8 := dkwX0_back_1 ++ []
def dkwX0_back_0 : List UInt8 := [27, 133, 9, 42, 180, 1, 111, 133, 184, 0, 45, 154, 0, 5, 2, 172, 42, 89, 180, 1, 111, 27, 100]
abbrev dktX0_back_0 : List UInt8 := dkwX0_back_0 ++ dktX0_back_1
theorem dksX0_back_0 : cX0_back.data.toList.drop 0 = dktX0_back_0 := by decide +kernel
theorem dksX0_back_1 : cX0_back.data.toList.drop 23 = dktX0_back_1 := dk_seg dksX0_back_0 23 rfl rfl
theorem dX0_back_0 : decode cX0_back 0 = .ok (.iload_n 1, 1) := dk_27 (dk_at dksX0_back_0 0 rfl rfl)
theorem dX0_back_1 : decode cX0_back 1 = .ok (.i2l, 1) := dk_133 (dk_at dksX0_back_0 1 rfl rfl)
theorem dX0_back_2 : decode cX0_back 2 = .ok (.lconst 0, 1) := dk_9 (dk_at dksX0_back_0 2 rfl rfl)
theorem dX0_back_3 : decode cX0_back 3 = .ok (.aload_n 0, 1) := dk_42 (dk_at dksX0_back_0 3 rfl rfl)
theorem dX0_back_4 : decode cX0_back 4 = .ok (.getfield 367, 3) := dk_180 1 111 (dk_at dksX0_back_0 4 rfl rfl)
theorem dX0_back_7 : decode cX0_back 7 = .ok (.i2l, 1) := dk_133 (dk_at dksX0_back_0 7 rfl rfl)
theorem dX0_back_8 : decode cX0_back 8 = .ok (.invokestatic 45, 3) := dk_184 0 45 (dk_at dksX0_back_0 8 rfl rfl)
theorem dX0_back_11 : decode cX0_back 11 = .ok (.ifCond .ne 5, 3) := dk_154 0 5 (dk_at dksX0_back_0 11 rfl rfl)
theorem dX0_back_14 : decode cX0_back 14 = .ok (.iconst (-1), 1) := dk_2 (dk_at dksX0_back_0 14 rfl rfl)
theorem dX0_back_15 : decode cX0_back 15 = .ok (.ireturn, 1) := dk_172 (dk_at dksX0_back_0 15 rfl rfl)
theorem dX0_back_16 : decode cX0_back 16 = .ok (.aload_n 0, 1) := dk_42 (dk_at dksX0_back_0 16 rfl rfl)
theorem dX0_back_17 : decode cX0_back 17 = .ok (.dup, 1) := dk_89 (dk_at dksX0_back_0 17 rfl rfl)
theorem dX0_back_18 : decode cX0_back 18 = .ok (.getfield 367, 3) := dk_180 1 111 (dk_at dksX0_back_0 18 rfl rfl)
theorem dX0_back_21 : decode cX0_back 21 = .ok (.iload_n 1, 1) := dk_27 (dk_at dksX0_back_0 21 rfl rfl)
theorem dX0_back_22 : decode cX0_back 22 = .ok (.isub, 1) := dk_100 (dk_at dksX0_back_0 22 rfl rfl)
theorem dX0_back_23 : decode cX0_back 23 = .ok (.putfield 367, 3) := dk_181 1 111 (dk_at dksX0_back_1 0 rfl rfl)
theorem dX0_back_26 : decode cX0_back 26 = .ok (.aload_n 0, 1) := dk_42 (dk_at dksX0_back_1 3 rfl rfl)
theorem dX0_back_27 : decode cX0_back 27 = .ok (.getfield 367, 3) := dk_180 1 111 (dk_at dksX0_back_1 4 rfl rfl)
theorem dX0_back_30 : decode cX0_back 30 = .ok (.ireturn, 1) := dk_172 (dk_at dksX0_back_1 7 rfl rfl)
def dkwX0_text_2 : List UInt8 := [3, 181, 1, 111, 28, 172, 78, 42, 3, 181, 1, 111, 45, 191]
abbrev dktX0_text_2 : List UInt8 := dkwX0_text_2 ++ []
def dkwX0_text_1 : List UInt8 := [180, 0, 10, 180, 0, 64, 60, 42, 3, 181, 1, 111, 27, 172, 76, 16, 252, 43, 180, 1, 136, 100, 61, 42]
abbrev dktX0_text_1 : List UInt8 := dkwX0_text_1 ++ dktX0_text_2
def dkwX0_text_0 : List UInt8 := [42, 187, 1, 123, 89, 42, 183, 1, 125, 182, 1, 128, 181, 0, 10, 42, 180, 0, 19, 182, 1, 131, 42]
abbrev dktX0_text_0 : List UInt8 := dkwX0_text_0 ++ dktX0_text_1
theorem dksX0_text_0 : cX0_text.data.toList.drop 0 = dktX0_text_0 := by decide +kernel
theorem dksX0_text_1 : cX0_text.data.toList.drop 23 = dktX0_text_1 := dk_seg dksX0_text_0 23 rfl rfl
theorem dksX0_text_2 : cX0_text.data.toList.drop 47 = dktX0_text_2 := dk_seg dksX0_text_1 24 rfl rfl
theorem dX0_text_0 : decode cX0_text 0 = .ok (.aload_n 0, 1) := dk_42 (dk_at dksX0_text_0 0 rfl rfl)
theorem dX0_text_1 : decode cX0_text 1 = .ok (.new 379, 3) := dk_187 1 123 (dk_at dksX0_text_0 1 rfl rfl)
theorem dX0_text_4 : decode cX0_text 4 = .ok (.dup, 1) := dk_89 (dk_at dksX0_text_0 4 rfl rfl)
theorem dX0_text_5 : decode cX0_text 5 = .ok (.aload_n 0, 1) := dk_42 (dk_at dksX0_text_0 5 rfl rfl)
theorem dX0_text_6 : decode cX0_text 6 = .ok (.invokespecial 381, 3) := dk_183 1 125 (dk_at dksX0_text_0 6 rfl rfl)
theorem dX0_text_9 : decode cX0_text 9 = .ok (.invokevirtual 384, 3) := dk_182 1 128 (dk_at dksX0_text_0 9 rfl rfl)
theorem dX0_text_12 : decode cX0_text 12 = .ok (.putfield 10, 3) := dk_181 0 10 (dk_at dksX0_text_0 12 rfl rfl)
theorem dX0_text_15 : decode cX0_text 15 = .ok (.aload_n 0, 1) := dk_42 (dk_at dksX0_text_0 15 rfl rfl)
theorem dX0_text_16 : decode cX0_text 16 = .ok (.getfield 19, 3) := dk_180 0 19 (dk_at dksX0_text_0 16 rfl rfl)
theorem dX0_text_19 : decode cX0_text 19 = .ok (.invokevirtual 387, 3) := dk_182 1 131 (dk_at dksX0_text_0 19 rfl rfl)
theorem dX0_text_22 : decode cX0_text 22 = .ok (.aload_n 0, 1) := dk_42 (dk_at dksX0_text_0 22 rfl rfl)
theorem dX0_text_23 : decode cX0_text 23 = .ok (.getfield 10, 3) := dk_180 0 10 (dk_at dksX0_text_1 0 rfl rfl)
theorem dX0_text_26 : decode cX0_text 26 = .ok (.getfield 64, 3) := dk_180 0 64 (dk_at dksX0_text_1 3 rfl rfl)
theorem dX0_text_29 : decode cX0_text 29 = .ok (.istore_n 1, 1) := dk_60 (dk_at dksX0_text_1 6 rfl rfl)
theorem dX0_text_30 : decode cX0_text 30 = .ok (.aload_n 0, 1) := dk_42 (dk_at dksX0_text_1 7 rfl rfl)
theorem dX0_text_31 : decode cX0_text 31 = .ok (.iconst 0, 1) := dk_3 (dk_at dksX0_text_1 8 rfl rfl)
theorem dX0_text_32 : decode cX0_text 32 = .ok (.putfield 367, 3) := dk_181 1 111 (dk_at dksX0_text_1 9 rfl rfl)
theorem dX0_text_35 : decode cX0_text 35 = .ok (.iload_n 1, 1) := dk_27 (dk_at dksX0_text_1 12 rfl rfl)
theorem dX0_text_36 : decode cX0_text 36 = .ok (.ireturn, 1) := dk_172 (dk_at dksX0_text_1 13 rfl rfl)
theorem dX0_text_37 : decode cX0_text 37 = .ok (.astore_n 1, 1) := dk_76 (dk_at dksX0_text_1 14 rfl rfl)
theorem dX0_text_38 : decode cX0_text 38 = .ok (.bipush (-4), 2) := dk_16 252 (dk_at dksX0_text_1 15 rfl rfl)
theorem dX0_text_40 : decode cX0_text 40 = .ok (.aload_n 1, 1) := dk_43 (dk_at dksX0_text_1 17 rfl rfl)
theorem dX0_text_41 : decode cX0_text 41 = .ok (.getfield 392, 3) := dk_180 1 136 (dk_at dksX0_text_1 18 rfl rfl)
theorem dX0_text_44 : decode cX0_text 44 = .ok (.isub, 1) := dk_100 (dk_at dksX0_text_1 21 rfl rfl)
theorem dX0_text_45 : decode cX0_text 45 = .ok (.istore_n 2, 1) := dk_61 (dk_at dksX0_text_1 22 rfl rfl)
theorem dX0_text_46 : decode cX0_text 46 = .ok (.aload_n 0, 1) := dk_42 (dk_at dksX0_text_1 23 rfl rfl)
theorem dX0_text_47 : decode cX0_text 47 = .ok (.iconst 0, 1) := dk_3 (dk_at dksX0_text_2 0 rfl rfl)
theorem dX0_text_48 : decode cX0_text 48 = .ok (.putfield 367, 3) := dk_181 1 111 (dk_at dksX0_text_2 1 rfl rfl)
theorem dX0_text_51 : decode cX0_text 51 = .ok (.iload_n 2, 1) := dk_28 (dk_at dksX0_text_2 4 rfl rfl)
theorem dX0_text_52 : decode cX0_text 52 = .ok (.ireturn, 1) := dk_172 (dk_at dksX0_text_2 5 rfl rfl)
theorem dX0_text_53 : decode cX0_text 53 = .ok (.astore_n 3, 1) := dk_78 (dk_at dksX0_text_2 6 rfl rfl)
theorem dX0_text_54 : decode cX0_text 54 = .ok (.aload_n 0, 1) := dk_42 (dk_at dksX0_text_2 7 rfl rfl)
theorem dX0_text_55 : decode cX0_text 55 = .ok (.iconst 0, 1) := dk_3 (dk_at dksX0_text_2 8 rfl rfl)
theorem dX0_text_56 : decode cX0_text 56 = .ok (.putfield 367, 3) := dk_181 1 111 (dk_at dksX0_text_2 9 rfl rfl)
theorem dX0_text_59 : decode cX0_text 59 = .ok (.aload_n 3, 1) := dk_45 (dk_at dksX0_text_2 12 rfl rfl)
theorem dX0_text_60 : decode cX0_text 60 = .ok (.athrow, 1) := dk_191 (dk_at dksX0_text_2 13 rfl rfl)

