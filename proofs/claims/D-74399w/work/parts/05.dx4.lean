set_option maxRecDepth 100000
def dkwX4_init_5 : List UInt8 := [188, 10, 181, 0, 56, 42, 16, 6, 188, 10, 181, 0, 59, 42, 17, 4, 176, 188, 10, 181, 0, 62, 177]
abbrev dktX4_init_5 : List UInt8 := dkwX4_init_5 ++ []
def dkwX4_init_4 : List UInt8 := [188, 10, 181, 0, 47, 42, 16, 24, 188, 10, 181, 0, 50, 42, 16, 6, 188, 10, 181, 0, 53, 42, 16, 6]
abbrev dktX4_init_4 : List UInt8 := dkwX4_init_4 ++ dktX4_init_5
def dkwX4_init_3 : List UInt8 := [181, 0, 35, 42, 2, 181, 0, 38, 42, 16, 100, 181, 0, 41, 42, 7, 188, 10, 181, 0, 44, 42, 7]
abbrev dktX4_init_3 : List UInt8 := dkwX4_init_3 ++ dktX4_init_4
def dkwX4_init_2 : List UInt8 := [42, 7, 188, 10, 181, 0, 25, 42, 16, 6, 188, 10, 181, 0, 28, 42, 2, 181, 0, 31, 42, 17, 1, 104]
abbrev dktX4_init_2 : List UInt8 := dkwX4_init_2 ++ dktX4_init_3
def dkwX4_init_1 : List UInt8 := [17, 6, 132, 188, 10, 181, 0, 16, 42, 17, 3, 32, 188, 10, 181, 0, 19, 42, 7, 188, 10, 181, 0, 22]
abbrev dktX4_init_1 : List UInt8 := dkwX4_init_1 ++ dktX4_init_2
def dkwX4_init_0 : List UInt8 := [42, 183, 0, 1, 42, 17, 0, 139, 188, 10, 181, 0, 7, 42, 17, 0, 139, 188, 10, 181, 0, 13, 42]
abbrev dktX4_init_0 : List UInt8 := dkwX4_init_0 ++ dktX4_init_1
theorem dksX4_init_0 : cX4_init.data.toList.drop 0 = dktX4_init_0 := by decide +kernel
theorem dksX4_init_1 : cX4_init.data.toList.drop 23 = dktX4_init_1 := dk_seg dksX4_init_0 23 rfl rfl
theorem dksX4_init_2 : cX4_init.data.toList.drop 47 = dktX4_init_2 := dk_seg dksX4_init_1 24 rfl rfl
theorem dksX4_init_3 : cX4_init.data.toList.drop 71 = dktX4_init_3 := dk_seg dksX4_init_2 24 rfl rfl
theorem dksX4_init_4 : cX4_init.data.toList.drop 94 = dktX4_init_4 := dk_seg dksX4_init_3 23 rfl rfl
theorem dksX4_init_5 : cX4_init.data.toList.drop 118 = dktX4_init_5 := dk_seg dksX4_init_4 24 rfl rfl
theorem dX4_init_0 : decode cX4_init 0 = .ok (.aload_n 0, 1) := dk_42 (dk_at dksX4_init_0 0 rfl rfl)
theorem dX4_init_1 : decode cX4_init 1 = .ok (.invokespecial 1, 3) := dk_183 0 1 (dk_at dksX4_init_0 1 rfl rfl)
theorem dX4_init_4 : decode cX4_init 4 = .ok (.aload_n 0, 1) := dk_42 (dk_at dksX4_init_0 4 rfl rfl)
theorem dX4_init_5 : decode cX4_init 5 = .ok (.sipush 139, 3) := dk_17 0 139 (dk_at dksX4_init_0 5 rfl rfl)
theorem dX4_init_8 : decode cX4_init 8 = .ok (.newarray .int, 2) := dk_188_10 (dk_at dksX4_init_0 8 rfl rfl)
theorem dX4_init_10 : decode cX4_init 10 = .ok (.putfield 7, 3) := dk_181 0 7 (dk_at dksX4_init_0 10 rfl rfl)
theorem dX4_init_13 : decode cX4_init 13 = .ok (.aload_n 0, 1) := dk_42 (dk_at dksX4_init_0 13 rfl rfl)
theorem dX4_init_14 : decode cX4_init 14 = .ok (.sipush 139, 3) := dk_17 0 139 (dk_at dksX4_init_0 14 rfl rfl)
theorem dX4_init_17 : decode cX4_init 17 = .ok (.newarray .int, 2) := dk_188_10 (dk_at dksX4_init_0 17 rfl rfl)
theorem dX4_init_19 : decode cX4_init 19 = .ok (.putfield 13, 3) := dk_181 0 13 (dk_at dksX4_init_0 19 rfl rfl)
theorem dX4_init_22 : decode cX4_init 22 = .ok (.aload_n 0, 1) := dk_42 (dk_at dksX4_init_0 22 rfl rfl)
theorem dX4_init_23 : decode cX4_init 23 = .ok (.sipush 1668, 3) := dk_17 6 132 (dk_at dksX4_init_1 0 rfl rfl)
theorem dX4_init_26 : decode cX4_init 26 = .ok (.newarray .int, 2) := dk_188_10 (dk_at dksX4_init_1 3 rfl rfl)
theorem dX4_init_28 : decode cX4_init 28 = .ok (.putfield 16, 3) := dk_181 0 16 (dk_at dksX4_init_1 5 rfl rfl)
theorem dX4_init_31 : decode cX4_init 31 = .ok (.aload_n 0, 1) := dk_42 (dk_at dksX4_init_1 8 rfl rfl)
theorem dX4_init_32 : decode cX4_init 32 = .ok (.sipush 800, 3) := dk_17 3 32 (dk_at dksX4_init_1 9 rfl rfl)
theorem dX4_init_35 : decode cX4_init 35 = .ok (.newarray .int, 2) := dk_188_10 (dk_at dksX4_init_1 12 rfl rfl)
theorem dX4_init_37 : decode cX4_init 37 = .ok (.putfield 19, 3) := dk_181 0 19 (dk_at dksX4_init_1 14 rfl rfl)
theorem dX4_init_40 : decode cX4_init 40 = .ok (.aload_n 0, 1) := dk_42 (dk_at dksX4_init_1 17 rfl rfl)
theorem dX4_init_41 : decode cX4_init 41 = .ok (.iconst 4, 1) := dk_7 (dk_at dksX4_init_1 18 rfl rfl)
theorem dX4_init_42 : decode cX4_init 42 = .ok (.newarray .int, 2) := dk_188_10 (dk_at dksX4_init_1 19 rfl rfl)
theorem dX4_init_44 : decode cX4_init 44 = .ok (.putfield 22, 3) := dk_181 0 22 (dk_at dksX4_init_1 21 rfl rfl)
theorem dX4_init_47 : decode cX4_init 47 = .ok (.aload_n 0, 1) := dk_42 (dk_at dksX4_init_2 0 rfl rfl)
theorem dX4_init_48 : decode cX4_init 48 = .ok (.iconst 4, 1) := dk_7 (dk_at dksX4_init_2 1 rfl rfl)
theorem dX4_init_49 : decode cX4_init 49 = .ok (.newarray .int, 2) := dk_188_10 (dk_at dksX4_init_2 2 rfl rfl)
theorem dX4_init_51 : decode cX4_init 51 = .ok (.putfield 25, 3) := dk_181 0 25 (dk_at dksX4_init_2 4 rfl rfl)
theorem dX4_init_54 : decode cX4_init 54 = .ok (.aload_n 0, 1) := dk_42 (dk_at dksX4_init_2 7 rfl rfl)
theorem dX4_init_55 : decode cX4_init 55 = .ok (.bipush 6, 2) := dk_16 6 (dk_at dksX4_init_2 8 rfl rfl)
theorem dX4_init_57 : decode cX4_init 57 = .ok (.newarray .int, 2) := dk_188_10 (dk_at dksX4_init_2 10 rfl rfl)
theorem dX4_init_59 : decode cX4_init 59 = .ok (.putfield 28, 3) := dk_181 0 28 (dk_at dksX4_init_2 12 rfl rfl)
theorem dX4_init_62 : decode cX4_init 62 = .ok (.aload_n 0, 1) := dk_42 (dk_at dksX4_init_2 15 rfl rfl)
theorem dX4_init_63 : decode cX4_init 63 = .ok (.iconst (-1), 1) := dk_2 (dk_at dksX4_init_2 16 rfl rfl)
theorem dX4_init_64 : decode cX4_init 64 = .ok (.putfield 31, 3) := dk_181 0 31 (dk_at dksX4_init_2 17 rfl rfl)
theorem dX4_init_67 : decode cX4_init 67 = .ok (.aload_n 0, 1) := dk_42 (dk_at dksX4_init_2 20 rfl rfl)
theorem dX4_init_68 : decode cX4_init 68 = .ok (.sipush 360, 3) := dk_17 1 104 (dk_at dksX4_init_2 21 rfl rfl)
theorem dX4_init_71 : decode cX4_init 71 = .ok (.putfield 35, 3) := dk_181 0 35 (dk_at dksX4_init_3 0 rfl rfl)
theorem dX4_init_74 : decode cX4_init 74 = .ok (.aload_n 0, 1) := dk_42 (dk_at dksX4_init_3 3 rfl rfl)
theorem dX4_init_75 : decode cX4_init 75 = .ok (.iconst (-1), 1) := dk_2 (dk_at dksX4_init_3 4 rfl rfl)
theorem dX4_init_76 : decode cX4_init 76 = .ok (.putfield 38, 3) := dk_181 0 38 (dk_at dksX4_init_3 5 rfl rfl)
theorem dX4_init_79 : decode cX4_init 79 = .ok (.aload_n 0, 1) := dk_42 (dk_at dksX4_init_3 8 rfl rfl)
theorem dX4_init_80 : decode cX4_init 80 = .ok (.bipush 100, 2) := dk_16 100 (dk_at dksX4_init_3 9 rfl rfl)
theorem dX4_init_82 : decode cX4_init 82 = .ok (.putfield 41, 3) := dk_181 0 41 (dk_at dksX4_init_3 11 rfl rfl)
theorem dX4_init_85 : decode cX4_init 85 = .ok (.aload_n 0, 1) := dk_42 (dk_at dksX4_init_3 14 rfl rfl)
theorem dX4_init_86 : decode cX4_init 86 = .ok (.iconst 4, 1) := dk_7 (dk_at dksX4_init_3 15 rfl rfl)
theorem dX4_init_87 : decode cX4_init 87 = .ok (.newarray .int, 2) := dk_188_10 (dk_at dksX4_init_3 16 rfl rfl)
theorem dX4_init_89 : decode cX4_init 89 = .ok (.putfield 44, 3) := dk_181 0 44 (dk_at dksX4_init_3 18 rfl rfl)
theorem dX4_init_92 : decode cX4_init 92 = .ok (.aload_n 0, 1) := dk_42 (dk_at dksX4_init_3 21 rfl rfl)
theorem dX4_init_93 : decode cX4_init 93 = .ok (.iconst 4, 1) := dk_7 (dk_at dksX4_init_3 22 rfl rfl)
theorem dX4_init_94 : decode cX4_init 94 = .ok (.newarray .int, 2) := dk_188_10 (dk_at dksX4_init_4 0 rfl rfl)
theorem dX4_init_96 : decode cX4_init 96 = .ok (.putfield 47, 3) := dk_181 0 47 (dk_at dksX4_init_4 2 rfl rfl)
theorem dX4_init_99 : decode cX4_init 99 = .ok (.aload_n 0, 1) := dk_42 (dk_at dksX4_init_4 5 rfl rfl)
theorem dX4_init_100 : decode cX4_init 100 = .ok (.bipush 24, 2) := dk_16 24 (dk_at dksX4_init_4 6 rfl rfl)
theorem dX4_init_102 : decode cX4_init 102 = .ok (.newarray .int, 2) := dk_188_10 (dk_at dksX4_init_4 8 rfl rfl)
theorem dX4_init_104 : decode cX4_init 104 = .ok (.putfield 50, 3) := dk_181 0 50 (dk_at dksX4_init_4 10 rfl rfl)
theorem dX4_init_107 : decode cX4_init 107 = .ok (.aload_n 0, 1) := dk_42 (dk_at dksX4_init_4 13 rfl rfl)
theorem dX4_init_108 : decode cX4_init 108 = .ok (.bipush 6, 2) := dk_16 6 (dk_at dksX4_init_4 14 rfl rfl)
theorem dX4_init_110 : decode cX4_init 110 = .ok (.newarray .int, 2) := dk_188_10 (dk_at dksX4_init_4 16 rfl rfl)
theorem dX4_init_112 : decode cX4_init 112 = .ok (.putfield 53, 3) := dk_181 0 53 (dk_at dksX4_init_4 18 rfl rfl)
theorem dX4_init_115 : decode cX4_init 115 = .ok (.aload_n 0, 1) := dk_42 (dk_at dksX4_init_4 21 rfl rfl)
theorem dX4_init_116 : decode cX4_init 116 = .ok (.bipush 6, 2) := dk_16 6 (dk_at dksX4_init_4 22 rfl rfl)
theorem dX4_init_118 : decode cX4_init 118 = .ok (.newarray .int, 2) := dk_188_10 (dk_at dksX4_init_5 0 rfl rfl)
theorem dX4_init_120 : decode cX4_init 120 = .ok (.putfield 56, 3) := dk_181 0 56 (dk_at dksX4_init_5 2 rfl rfl)
theorem dX4_init_123 : decode cX4_init 123 = .ok (.aload_n 0, 1) := dk_42 (dk_at dksX4_init_5 5 rfl rfl)
theorem dX4_init_124 : decode cX4_init 124 = .ok (.bipush 6, 2) := dk_16 6 (dk_at dksX4_init_5 6 rfl rfl)
theorem dX4_init_126 : decode cX4_init 126 = .ok (.newarray .int, 2) := dk_188_10 (dk_at dksX4_init_5 8 rfl rfl)
theorem dX4_init_128 : decode cX4_init 128 = .ok (.putfield 59, 3) := dk_181 0 59 (dk_at dksX4_init_5 10 rfl rfl)
theorem dX4_init_131 : decode cX4_init 131 = .ok (.aload_n 0, 1) := dk_42 (dk_at dksX4_init_5 13 rfl rfl)
theorem dX4_init_132 : decode cX4_init 132 = .ok (.sipush 1200, 3) := dk_17 4 176 (dk_at dksX4_init_5 14 rfl rfl)
theorem dX4_init_135 : decode cX4_init 135 = .ok (.newarray .int, 2) := dk_188_10 (dk_at dksX4_init_5 17 rfl rfl)
theorem dX4_init_137 : decode cX4_init 137 = .ok (.putfield 62, 3) := dk_181 0 62 (dk_at dksX4_init_5 19 rfl rfl)
theorem dX4_init_140 : decode cX4_init 140 = .ok (.return_, 1) := dk_177 (dk_at dksX4_init_5 22 rfl rfl)
def dkwX4_feed_5 : List UInt8 := [180, 0, 76, 172]
abbrev dktX4_feed_5 : List UInt8 := dkwX4_feed_5 ++ []
def dkwX4_feed_4 : List UInt8 := [122, 17, 0, 255, 126, 79, 42, 89, 180, 0, 76, 4, 96, 181, 0, 76, 132, 6, 1, 167, 255, 162, 42]
abbrev dktX4_feed_4 : List UInt8 := dkwX4_feed_4 ++ dktX4_feed_5
def dkwX4_feed_3 : List UInt8 := [21, 5, 54, 7, 42, 180, 0, 19, 42, 180, 0, 76, 21, 7, 16, 24, 16, 8, 21, 6, 7, 112, 104, 100]
abbrev dktX4_feed_3 : List UInt8 := dkwX4_feed_3 ++ dktX4_feed_4
def dkwX4_feed_2 : List UInt8 := [21, 6, 16, 12, 162, 0, 7, 29, 167, 0, 17, 21, 6, 16, 16, 162, 0, 8, 21, 4, 167, 0, 5]
abbrev dktX4_feed_2 : List UInt8 := dkwX4_feed_2 ++ dktX4_feed_3
def dkwX4_feed_1 : List UInt8 := [162, 0, 93, 21, 6, 7, 162, 0, 7, 27, 167, 0, 39, 21, 6, 16, 8, 162, 0, 7, 28, 167, 0, 28]
abbrev dktX4_feed_1 : List UInt8 := dkwX4_feed_1 ++ dktX4_feed_2
def dkwX4_feed_0 : List UInt8 := [42, 180, 0, 76, 16, 20, 96, 17, 3, 32, 164, 0, 5, 2, 172, 3, 54, 6, 21, 6, 16, 20]
abbrev dktX4_feed_0 : List UInt8 := dkwX4_feed_0 ++ dktX4_feed_1
theorem dksX4_feed_0 : cX4_feed.data.toList.drop 0 = dktX4_feed_0 := by decide +kernel
theorem dksX4_feed_1 : cX4_feed.data.toList.drop 22 = dktX4_feed_1 := dk_seg dksX4_feed_0 22 rfl rfl
theorem dksX4_feed_2 : cX4_feed.data.toList.drop 46 = dktX4_feed_2 := dk_seg dksX4_feed_1 24 rfl rfl
theorem dksX4_feed_3 : cX4_feed.data.toList.drop 69 = dktX4_feed_3 := dk_seg dksX4_feed_2 23 rfl rfl
theorem dksX4_feed_4 : cX4_feed.data.toList.drop 93 = dktX4_feed_4 := dk_seg dksX4_feed_3 24 rfl rfl
theorem dksX4_feed_5 : cX4_feed.data.toList.drop 116 = dktX4_feed_5 := dk_seg dksX4_feed_4 23 rfl rfl
theorem dX4_feed_0 : decode cX4_feed 0 = .ok (.aload_n 0, 1) := dk_42 (dk_at dksX4_feed_0 0 rfl rfl)
theorem dX4_feed_1 : decode cX4_feed 1 = .ok (.getfield 76, 3) := dk_180 0 76 (dk_at dksX4_feed_0 1 rfl rfl)
theorem dX4_feed_4 : decode cX4_feed 4 = .ok (.bipush 20, 2) := dk_16 20 (dk_at dksX4_feed_0 4 rfl rfl)
theorem dX4_feed_6 : decode cX4_feed 6 = .ok (.iadd, 1) := dk_96 (dk_at dksX4_feed_0 6 rfl rfl)
theorem dX4_feed_7 : decode cX4_feed 7 = .ok (.sipush 800, 3) := dk_17 3 32 (dk_at dksX4_feed_0 7 rfl rfl)
theorem dX4_feed_10 : decode cX4_feed 10 = .ok (.if_icmp .le 5, 3) := dk_164 0 5 (dk_at dksX4_feed_0 10 rfl rfl)
theorem dX4_feed_13 : decode cX4_feed 13 = .ok (.iconst (-1), 1) := dk_2 (dk_at dksX4_feed_0 13 rfl rfl)
theorem dX4_feed_14 : decode cX4_feed 14 = .ok (.ireturn, 1) := dk_172 (dk_at dksX4_feed_0 14 rfl rfl)
theorem dX4_feed_15 : decode cX4_feed 15 = .ok (.iconst 0, 1) := dk_3 (dk_at dksX4_feed_0 15 rfl rfl)
theorem dX4_feed_16 : decode cX4_feed 16 = .ok (.istore 6, 2) := dk_54 6 (dk_at dksX4_feed_0 16 rfl rfl)
theorem dX4_feed_18 : decode cX4_feed 18 = .ok (.iload 6, 2) := dk_21 6 (dk_at dksX4_feed_0 18 rfl rfl)
theorem dX4_feed_20 : decode cX4_feed 20 = .ok (.bipush 20, 2) := dk_16 20 (dk_at dksX4_feed_0 20 rfl rfl)
theorem dX4_feed_22 : decode cX4_feed 22 = .ok (.if_icmp .ge 93, 3) := dk_162 0 93 (dk_at dksX4_feed_1 0 rfl rfl)
theorem dX4_feed_25 : decode cX4_feed 25 = .ok (.iload 6, 2) := dk_21 6 (dk_at dksX4_feed_1 3 rfl rfl)
theorem dX4_feed_27 : decode cX4_feed 27 = .ok (.iconst 4, 1) := dk_7 (dk_at dksX4_feed_1 5 rfl rfl)
theorem dX4_feed_28 : decode cX4_feed 28 = .ok (.if_icmp .ge 7, 3) := dk_162 0 7 (dk_at dksX4_feed_1 6 rfl rfl)
theorem dX4_feed_31 : decode cX4_feed 31 = .ok (.iload_n 1, 1) := dk_27 (dk_at dksX4_feed_1 9 rfl rfl)
theorem dX4_feed_32 : decode cX4_feed 32 = .ok (.goto 39, 3) := dk_167 0 39 (dk_at dksX4_feed_1 10 rfl rfl)
theorem dX4_feed_35 : decode cX4_feed 35 = .ok (.iload 6, 2) := dk_21 6 (dk_at dksX4_feed_1 13 rfl rfl)
theorem dX4_feed_37 : decode cX4_feed 37 = .ok (.bipush 8, 2) := dk_16 8 (dk_at dksX4_feed_1 15 rfl rfl)
theorem dX4_feed_39 : decode cX4_feed 39 = .ok (.if_icmp .ge 7, 3) := dk_162 0 7 (dk_at dksX4_feed_1 17 rfl rfl)
theorem dX4_feed_42 : decode cX4_feed 42 = .ok (.iload_n 2, 1) := dk_28 (dk_at dksX4_feed_1 20 rfl rfl)
theorem dX4_feed_43 : decode cX4_feed 43 = .ok (.goto 28, 3) := dk_167 0 28 (dk_at dksX4_feed_1 21 rfl rfl)
theorem dX4_feed_46 : decode cX4_feed 46 = .ok (.iload 6, 2) := dk_21 6 (dk_at dksX4_feed_2 0 rfl rfl)
theorem dX4_feed_48 : decode cX4_feed 48 = .ok (.bipush 12, 2) := dk_16 12 (dk_at dksX4_feed_2 2 rfl rfl)
theorem dX4_feed_50 : decode cX4_feed 50 = .ok (.if_icmp .ge 7, 3) := dk_162 0 7 (dk_at dksX4_feed_2 4 rfl rfl)
theorem dX4_feed_53 : decode cX4_feed 53 = .ok (.iload_n 3, 1) := dk_29 (dk_at dksX4_feed_2 7 rfl rfl)
theorem dX4_feed_54 : decode cX4_feed 54 = .ok (.goto 17, 3) := dk_167 0 17 (dk_at dksX4_feed_2 8 rfl rfl)
theorem dX4_feed_57 : decode cX4_feed 57 = .ok (.iload 6, 2) := dk_21 6 (dk_at dksX4_feed_2 11 rfl rfl)
theorem dX4_feed_59 : decode cX4_feed 59 = .ok (.bipush 16, 2) := dk_16 16 (dk_at dksX4_feed_2 13 rfl rfl)
theorem dX4_feed_61 : decode cX4_feed 61 = .ok (.if_icmp .ge 8, 3) := dk_162 0 8 (dk_at dksX4_feed_2 15 rfl rfl)
theorem dX4_feed_64 : decode cX4_feed 64 = .ok (.iload 4, 2) := dk_21 4 (dk_at dksX4_feed_2 18 rfl rfl)
theorem dX4_feed_66 : decode cX4_feed 66 = .ok (.goto 5, 3) := dk_167 0 5 (dk_at dksX4_feed_2 20 rfl rfl)
theorem dX4_feed_69 : decode cX4_feed 69 = .ok (.iload 5, 2) := dk_21 5 (dk_at dksX4_feed_3 0 rfl rfl)
theorem dX4_feed_71 : decode cX4_feed 71 = .ok (.istore 7, 2) := dk_54 7 (dk_at dksX4_feed_3 2 rfl rfl)
theorem dX4_feed_73 : decode cX4_feed 73 = .ok (.aload_n 0, 1) := dk_42 (dk_at dksX4_feed_3 4 rfl rfl)
theorem dX4_feed_74 : decode cX4_feed 74 = .ok (.getfield 19, 3) := dk_180 0 19 (dk_at dksX4_feed_3 5 rfl rfl)
theorem dX4_feed_77 : decode cX4_feed 77 = .ok (.aload_n 0, 1) := dk_42 (dk_at dksX4_feed_3 8 rfl rfl)
theorem dX4_feed_78 : decode cX4_feed 78 = .ok (.getfield 76, 3) := dk_180 0 76 (dk_at dksX4_feed_3 9 rfl rfl)
theorem dX4_feed_81 : decode cX4_feed 81 = .ok (.iload 7, 2) := dk_21 7 (dk_at dksX4_feed_3 12 rfl rfl)
theorem dX4_feed_83 : decode cX4_feed 83 = .ok (.bipush 24, 2) := dk_16 24 (dk_at dksX4_feed_3 14 rfl rfl)
theorem dX4_feed_85 : decode cX4_feed 85 = .ok (.bipush 8, 2) := dk_16 8 (dk_at dksX4_feed_3 16 rfl rfl)
theorem dX4_feed_87 : decode cX4_feed 87 = .ok (.iload 6, 2) := dk_21 6 (dk_at dksX4_feed_3 18 rfl rfl)
theorem dX4_feed_89 : decode cX4_feed 89 = .ok (.iconst 4, 1) := dk_7 (dk_at dksX4_feed_3 20 rfl rfl)
theorem dX4_feed_90 : decode cX4_feed 90 = .ok (.irem, 1) := dk_112 (dk_at dksX4_feed_3 21 rfl rfl)
theorem dX4_feed_91 : decode cX4_feed 91 = .ok (.imul, 1) := dk_104 (dk_at dksX4_feed_3 22 rfl rfl)
theorem dX4_feed_92 : decode cX4_feed 92 = .ok (.isub, 1) := dk_100 (dk_at dksX4_feed_3 23 rfl rfl)
theorem dX4_feed_93 : decode cX4_feed 93 = .ok (.ishr, 1) := dk_122 (dk_at dksX4_feed_4 0 rfl rfl)
theorem dX4_feed_94 : decode cX4_feed 94 = .ok (.sipush 255, 3) := dk_17 0 255 (dk_at dksX4_feed_4 1 rfl rfl)
theorem dX4_feed_97 : decode cX4_feed 97 = .ok (.iand, 1) := dk_126 (dk_at dksX4_feed_4 4 rfl rfl)
theorem dX4_feed_98 : decode cX4_feed 98 = .ok (.iastore, 1) := dk_79 (dk_at dksX4_feed_4 5 rfl rfl)
theorem dX4_feed_99 : decode cX4_feed 99 = .ok (.aload_n 0, 1) := dk_42 (dk_at dksX4_feed_4 6 rfl rfl)
theorem dX4_feed_100 : decode cX4_feed 100 = .ok (.dup, 1) := dk_89 (dk_at dksX4_feed_4 7 rfl rfl)
theorem dX4_feed_101 : decode cX4_feed 101 = .ok (.getfield 76, 3) := dk_180 0 76 (dk_at dksX4_feed_4 8 rfl rfl)
theorem dX4_feed_104 : decode cX4_feed 104 = .ok (.iconst 1, 1) := dk_4 (dk_at dksX4_feed_4 11 rfl rfl)
theorem dX4_feed_105 : decode cX4_feed 105 = .ok (.iadd, 1) := dk_96 (dk_at dksX4_feed_4 12 rfl rfl)
theorem dX4_feed_106 : decode cX4_feed 106 = .ok (.putfield 76, 3) := dk_181 0 76 (dk_at dksX4_feed_4 13 rfl rfl)
theorem dX4_feed_109 : decode cX4_feed 109 = .ok (.iinc 6 1, 3) := dk_132 6 1 (dk_at dksX4_feed_4 16 rfl rfl)
theorem dX4_feed_112 : decode cX4_feed 112 = .ok (.goto (-94), 3) := dk_167 255 162 (dk_at dksX4_feed_4 19 rfl rfl)
theorem dX4_feed_115 : decode cX4_feed 115 = .ok (.aload_n 0, 1) := dk_42 (dk_at dksX4_feed_4 22 rfl rfl)
theorem dX4_feed_116 : decode cX4_feed 116 = .ok (.getfield 76, 3) := dk_180 0 76 (dk_at dksX4_feed_5 0 rfl rfl)
theorem dX4_feed_119 : decode cX4_feed 119 = .ok (.ireturn, 1) := dk_172 (dk_at dksX4_feed_5 3 rfl rfl)
def dkwX4_back_1 : List UInt8 := [42, 180, 0, 76, 172]
abbrev dktX4_back_1 : List UInt8 := dkwX4_back_1 ++ []
def dkwX4_back_0 : List UInt8 := [27, 3, 42, 180, 0, 76, 184, 0, 68, 154, 0, 5, 2, 172, 42, 89, 180, 0, 76, 27, 100, 181, 0, 76]
abbrev dktX4_back_0 : List UInt8 := dkwX4_back_0 ++ dktX4_back_1
theorem dksX4_back_0 : cX4_back.data.toList.drop 0 = dktX4_back_0 := by decide +kernel
theorem dksX4_back_1 : cX4_back.data.toList.drop 24 = dktX4_back_1 := dk_seg dksX4_back_0 24 rfl rfl
theorem dX4_back_0 : decode cX4_back 0 = .ok (.iload_n 1, 1) := dk_27 (dk_at dksX4_back_0 0 rfl rfl)
theorem dX4_back_1 : decode cX4_back 1 = .ok (.iconst 0, 1) := dk_3 (dk_at dksX4_back_0 1 rfl rfl)
theorem dX4_back_2 : decode cX4_back 2 = .ok (.aload_n 0, 1) := dk_42 (dk_at dksX4_back_0 2 rfl rfl)
theorem dX4_back_3 : decode cX4_back 3 = .ok (.getfield 76, 3) := dk_180 0 76 (dk_at dksX4_back_0 3 rfl rfl)
theorem dX4_back_6 : decode cX4_back 6 = .ok (.invokestatic 68, 3) := dk_184 0 68 (dk_at dksX4_back_0 6 rfl rfl)
theorem dX4_back_9 : decode cX4_back 9 = .ok (.ifCond .ne 5, 3) := dk_154 0 5 (dk_at dksX4_back_0 9 rfl rfl)
theorem dX4_back_12 : decode cX4_back 12 = .ok (.iconst (-1), 1) := dk_2 (dk_at dksX4_back_0 12 rfl rfl)
theorem dX4_back_13 : decode cX4_back 13 = .ok (.ireturn, 1) := dk_172 (dk_at dksX4_back_0 13 rfl rfl)
theorem dX4_back_14 : decode cX4_back 14 = .ok (.aload_n 0, 1) := dk_42 (dk_at dksX4_back_0 14 rfl rfl)
theorem dX4_back_15 : decode cX4_back 15 = .ok (.dup, 1) := dk_89 (dk_at dksX4_back_0 15 rfl rfl)
theorem dX4_back_16 : decode cX4_back 16 = .ok (.getfield 76, 3) := dk_180 0 76 (dk_at dksX4_back_0 16 rfl rfl)
theorem dX4_back_19 : decode cX4_back 19 = .ok (.iload_n 1, 1) := dk_27 (dk_at dksX4_back_0 19 rfl rfl)
theorem dX4_back_20 : decode cX4_back 20 = .ok (.isub, 1) := dk_100 (dk_at dksX4_back_0 20 rfl rfl)
theorem dX4_back_21 : decode cX4_back 21 = .ok (.putfield 76, 3) := dk_181 0 76 (dk_at dksX4_back_0 21 rfl rfl)
theorem dX4_back_24 : decode cX4_back 24 = .ok (.aload_n 0, 1) := dk_42 (dk_at dksX4_back_1 0 rfl rfl)
theorem dX4_back_25 : decode cX4_back 25 = .ok (.getfield 76, 3) := dk_180 0 76 (dk_at dksX4_back_1 1 rfl rfl)
theorem dX4_back_28 : decode cX4_back 28 = .ok (.ireturn, 1) := dk_172 (dk_at dksX4_back_1 4 rfl rfl)
def dkwX4_isIn_0 : List UInt8 := [26, 27, 161, 0, 12, 26, 28, 163, 0, 7, 4, 167, 0, 4, 3, 172]
abbrev dktX4_isIn_0 : List UInt8 := dkwX4_isIn_0 ++ []
theorem dksX4_isIn_0 : cX4_isIn.data.toList.drop 0 = dktX4_isIn_0 := by decide +kernel
theorem dX4_isIn_0 : decode cX4_isIn 0 = .ok (.iload_n 0, 1) := dk_26 (dk_at dksX4_isIn_0 0 rfl rfl)
theorem dX4_isIn_1 : decode cX4_isIn 1 = .ok (.iload_n 1, 1) := dk_27 (dk_at dksX4_isIn_0 1 rfl rfl)
theorem dX4_isIn_2 : decode cX4_isIn 2 = .ok (.if_icmp .lt 12, 3) := dk_161 0 12 (dk_at dksX4_isIn_0 2 rfl rfl)
theorem dX4_isIn_5 : decode cX4_isIn 5 = .ok (.iload_n 0, 1) := dk_26 (dk_at dksX4_isIn_0 5 rfl rfl)
theorem dX4_isIn_6 : decode cX4_isIn 6 = .ok (.iload_n 2, 1) := dk_28 (dk_at dksX4_isIn_0 6 rfl rfl)
theorem dX4_isIn_7 : decode cX4_isIn 7 = .ok (.if_icmp .gt 7, 3) := dk_163 0 7 (dk_at dksX4_isIn_0 7 rfl rfl)
theorem dX4_isIn_10 : decode cX4_isIn 10 = .ok (.iconst 1, 1) := dk_4 (dk_at dksX4_isIn_0 10 rfl rfl)
theorem dX4_isIn_11 : decode cX4_isIn 11 = .ok (.goto 4, 3) := dk_167 0 4 (dk_at dksX4_isIn_0 11 rfl rfl)
theorem dX4_isIn_14 : decode cX4_isIn 14 = .ok (.iconst 0, 1) := dk_3 (dk_at dksX4_isIn_0 14 rfl rfl)
theorem dX4_isIn_15 : decode cX4_isIn 15 = .ok (.ireturn, 1) := dk_172 (dk_at dksX4_isIn_0 15 rfl rfl)
def dkwX4_text_5 : List UInt8 := [16, 252, 42, 180, 0, 82, 100, 172, 42, 3, 181, 0, 152, 42, 180, 0, 7, 4, 46, 172]
abbrev dktX4_text_5 : List UInt8 := dkwX4_text_5 ++ []
def dkwX4_text_4 : List UInt8 := [17, 0, 139, 162, 0, 21, 42, 180, 0, 7, 27, 42, 180, 0, 13, 27, 46, 79, 132, 1, 1, 167, 255, 234]
abbrev dktX4_text_4 : List UInt8 := dkwX4_text_4 ++ dktX4_text_5
def dkwX4_text_3 : List UInt8 := [180, 0, 105, 153, 0, 10, 42, 182, 0, 149, 167, 255, 237, 42, 180, 0, 82, 2, 159, 0, 38, 3, 60, 27]
abbrev dktX4_text_3 : List UInt8 := dkwX4_text_3 ++ dktX4_text_4
def dkwX4_text_2 : List UInt8 := [27, 3, 79, 132, 1, 1, 167, 255, 227, 42, 182, 0, 113, 42, 180, 0, 82, 2, 160, 0, 17, 42]
abbrev dktX4_text_2 : List UInt8 := dkwX4_text_2 ++ dktX4_text_3
def dkwX4_text_1 : List UInt8 := [60, 27, 17, 0, 139, 162, 0, 28, 42, 180, 0, 13, 27, 42, 180, 0, 7, 27, 46, 79, 42, 180, 0, 7]
abbrev dktX4_text_1 : List UInt8 := dkwX4_text_1 ++ dktX4_text_2
def dkwX4_text_0 : List UInt8 := [42, 42, 180, 0, 76, 181, 0, 79, 42, 3, 181, 0, 76, 42, 3, 181, 0, 85, 42, 2, 181, 0, 82, 3]
abbrev dktX4_text_0 : List UInt8 := dkwX4_text_0 ++ dktX4_text_1
theorem dksX4_text_0 : cX4_text.data.toList.drop 0 = dktX4_text_0 := by decide +kernel
theorem dksX4_text_1 : cX4_text.data.toList.drop 24 = dktX4_text_1 := dk_seg dksX4_text_0 24 rfl rfl
theorem dksX4_text_2 : cX4_text.data.toList.drop 48 = dktX4_text_2 := dk_seg dksX4_text_1 24 rfl rfl
theorem dksX4_text_3 : cX4_text.data.toList.drop 70 = dktX4_text_3 := dk_seg dksX4_text_2 22 rfl rfl
theorem dksX4_text_4 : cX4_text.data.toList.drop 94 = dktX4_text_4 := dk_seg dksX4_text_3 24 rfl rfl
theorem dksX4_text_5 : cX4_text.data.toList.drop 118 = dktX4_text_5 := dk_seg dksX4_text_4 24 rfl rfl
theorem dX4_text_0 : decode cX4_text 0 = .ok (.aload_n 0, 1) := dk_42 (dk_at dksX4_text_0 0 rfl rfl)
theorem dX4_text_1 : decode cX4_text 1 = .ok (.aload_n 0, 1) := dk_42 (dk_at dksX4_text_0 1 rfl rfl)
theorem dX4_text_2 : decode cX4_text 2 = .ok (.getfield 76, 3) := dk_180 0 76 (dk_at dksX4_text_0 2 rfl rfl)
theorem dX4_text_5 : decode cX4_text 5 = .ok (.putfield 79, 3) := dk_181 0 79 (dk_at dksX4_text_0 5 rfl rfl)
theorem dX4_text_8 : decode cX4_text 8 = .ok (.aload_n 0, 1) := dk_42 (dk_at dksX4_text_0 8 rfl rfl)
theorem dX4_text_9 : decode cX4_text 9 = .ok (.iconst 0, 1) := dk_3 (dk_at dksX4_text_0 9 rfl rfl)
theorem dX4_text_10 : decode cX4_text 10 = .ok (.putfield 76, 3) := dk_181 0 76 (dk_at dksX4_text_0 10 rfl rfl)
theorem dX4_text_13 : decode cX4_text 13 = .ok (.aload_n 0, 1) := dk_42 (dk_at dksX4_text_0 13 rfl rfl)
theorem dX4_text_14 : decode cX4_text 14 = .ok (.iconst 0, 1) := dk_3 (dk_at dksX4_text_0 14 rfl rfl)
theorem dX4_text_15 : decode cX4_text 15 = .ok (.putfield 85, 3) := dk_181 0 85 (dk_at dksX4_text_0 15 rfl rfl)
theorem dX4_text_18 : decode cX4_text 18 = .ok (.aload_n 0, 1) := dk_42 (dk_at dksX4_text_0 18 rfl rfl)
theorem dX4_text_19 : decode cX4_text 19 = .ok (.iconst (-1), 1) := dk_2 (dk_at dksX4_text_0 19 rfl rfl)
theorem dX4_text_20 : decode cX4_text 20 = .ok (.putfield 82, 3) := dk_181 0 82 (dk_at dksX4_text_0 20 rfl rfl)
theorem dX4_text_23 : decode cX4_text 23 = .ok (.iconst 0, 1) := dk_3 (dk_at dksX4_text_0 23 rfl rfl)
theorem dX4_text_24 : decode cX4_text 24 = .ok (.istore_n 1, 1) := dk_60 (dk_at dksX4_text_1 0 rfl rfl)
theorem dX4_text_25 : decode cX4_text 25 = .ok (.iload_n 1, 1) := dk_27 (dk_at dksX4_text_1 1 rfl rfl)
theorem dX4_text_26 : decode cX4_text 26 = .ok (.sipush 139, 3) := dk_17 0 139 (dk_at dksX4_text_1 2 rfl rfl)
theorem dX4_text_29 : decode cX4_text 29 = .ok (.if_icmp .ge 28, 3) := dk_162 0 28 (dk_at dksX4_text_1 5 rfl rfl)
theorem dX4_text_32 : decode cX4_text 32 = .ok (.aload_n 0, 1) := dk_42 (dk_at dksX4_text_1 8 rfl rfl)
theorem dX4_text_33 : decode cX4_text 33 = .ok (.getfield 13, 3) := dk_180 0 13 (dk_at dksX4_text_1 9 rfl rfl)
theorem dX4_text_36 : decode cX4_text 36 = .ok (.iload_n 1, 1) := dk_27 (dk_at dksX4_text_1 12 rfl rfl)
theorem dX4_text_37 : decode cX4_text 37 = .ok (.aload_n 0, 1) := dk_42 (dk_at dksX4_text_1 13 rfl rfl)
theorem dX4_text_38 : decode cX4_text 38 = .ok (.getfield 7, 3) := dk_180 0 7 (dk_at dksX4_text_1 14 rfl rfl)
theorem dX4_text_41 : decode cX4_text 41 = .ok (.iload_n 1, 1) := dk_27 (dk_at dksX4_text_1 17 rfl rfl)
theorem dX4_text_42 : decode cX4_text 42 = .ok (.iaload, 1) := dk_46 (dk_at dksX4_text_1 18 rfl rfl)
theorem dX4_text_43 : decode cX4_text 43 = .ok (.iastore, 1) := dk_79 (dk_at dksX4_text_1 19 rfl rfl)
theorem dX4_text_44 : decode cX4_text 44 = .ok (.aload_n 0, 1) := dk_42 (dk_at dksX4_text_1 20 rfl rfl)
theorem dX4_text_45 : decode cX4_text 45 = .ok (.getfield 7, 3) := dk_180 0 7 (dk_at dksX4_text_1 21 rfl rfl)
theorem dX4_text_48 : decode cX4_text 48 = .ok (.iload_n 1, 1) := dk_27 (dk_at dksX4_text_2 0 rfl rfl)
theorem dX4_text_49 : decode cX4_text 49 = .ok (.iconst 0, 1) := dk_3 (dk_at dksX4_text_2 1 rfl rfl)
theorem dX4_text_50 : decode cX4_text 50 = .ok (.iastore, 1) := dk_79 (dk_at dksX4_text_2 2 rfl rfl)
theorem dX4_text_51 : decode cX4_text 51 = .ok (.iinc 1 1, 3) := dk_132 1 1 (dk_at dksX4_text_2 3 rfl rfl)
theorem dX4_text_54 : decode cX4_text 54 = .ok (.goto (-29), 3) := dk_167 255 227 (dk_at dksX4_text_2 6 rfl rfl)
theorem dX4_text_57 : decode cX4_text 57 = .ok (.aload_n 0, 1) := dk_42 (dk_at dksX4_text_2 9 rfl rfl)
theorem dX4_text_58 : decode cX4_text 58 = .ok (.invokevirtual 113, 3) := dk_182 0 113 (dk_at dksX4_text_2 10 rfl rfl)
theorem dX4_text_61 : decode cX4_text 61 = .ok (.aload_n 0, 1) := dk_42 (dk_at dksX4_text_2 13 rfl rfl)
theorem dX4_text_62 : decode cX4_text 62 = .ok (.getfield 82, 3) := dk_180 0 82 (dk_at dksX4_text_2 14 rfl rfl)
theorem dX4_text_65 : decode cX4_text 65 = .ok (.iconst (-1), 1) := dk_2 (dk_at dksX4_text_2 17 rfl rfl)
theorem dX4_text_66 : decode cX4_text 66 = .ok (.if_icmp .ne 17, 3) := dk_160 0 17 (dk_at dksX4_text_2 18 rfl rfl)
theorem dX4_text_69 : decode cX4_text 69 = .ok (.aload_n 0, 1) := dk_42 (dk_at dksX4_text_2 21 rfl rfl)
theorem dX4_text_70 : decode cX4_text 70 = .ok (.getfield 105, 3) := dk_180 0 105 (dk_at dksX4_text_3 0 rfl rfl)
theorem dX4_text_73 : decode cX4_text 73 = .ok (.ifCond .eq 10, 3) := dk_153 0 10 (dk_at dksX4_text_3 3 rfl rfl)
theorem dX4_text_76 : decode cX4_text 76 = .ok (.aload_n 0, 1) := dk_42 (dk_at dksX4_text_3 6 rfl rfl)
theorem dX4_text_77 : decode cX4_text 77 = .ok (.invokevirtual 149, 3) := dk_182 0 149 (dk_at dksX4_text_3 7 rfl rfl)
theorem dX4_text_80 : decode cX4_text 80 = .ok (.goto (-19), 3) := dk_167 255 237 (dk_at dksX4_text_3 10 rfl rfl)
theorem dX4_text_83 : decode cX4_text 83 = .ok (.aload_n 0, 1) := dk_42 (dk_at dksX4_text_3 13 rfl rfl)
theorem dX4_text_84 : decode cX4_text 84 = .ok (.getfield 82, 3) := dk_180 0 82 (dk_at dksX4_text_3 14 rfl rfl)
theorem dX4_text_87 : decode cX4_text 87 = .ok (.iconst (-1), 1) := dk_2 (dk_at dksX4_text_3 17 rfl rfl)
theorem dX4_text_88 : decode cX4_text 88 = .ok (.if_icmp .eq 38, 3) := dk_159 0 38 (dk_at dksX4_text_3 18 rfl rfl)
theorem dX4_text_91 : decode cX4_text 91 = .ok (.iconst 0, 1) := dk_3 (dk_at dksX4_text_3 21 rfl rfl)
theorem dX4_text_92 : decode cX4_text 92 = .ok (.istore_n 1, 1) := dk_60 (dk_at dksX4_text_3 22 rfl rfl)
theorem dX4_text_93 : decode cX4_text 93 = .ok (.iload_n 1, 1) := dk_27 (dk_at dksX4_text_3 23 rfl rfl)
theorem dX4_text_94 : decode cX4_text 94 = .ok (.sipush 139, 3) := dk_17 0 139 (dk_at dksX4_text_4 0 rfl rfl)
theorem dX4_text_97 : decode cX4_text 97 = .ok (.if_icmp .ge 21, 3) := dk_162 0 21 (dk_at dksX4_text_4 3 rfl rfl)
theorem dX4_text_100 : decode cX4_text 100 = .ok (.aload_n 0, 1) := dk_42 (dk_at dksX4_text_4 6 rfl rfl)
theorem dX4_text_101 : decode cX4_text 101 = .ok (.getfield 7, 3) := dk_180 0 7 (dk_at dksX4_text_4 7 rfl rfl)
theorem dX4_text_104 : decode cX4_text 104 = .ok (.iload_n 1, 1) := dk_27 (dk_at dksX4_text_4 10 rfl rfl)
theorem dX4_text_105 : decode cX4_text 105 = .ok (.aload_n 0, 1) := dk_42 (dk_at dksX4_text_4 11 rfl rfl)
theorem dX4_text_106 : decode cX4_text 106 = .ok (.getfield 13, 3) := dk_180 0 13 (dk_at dksX4_text_4 12 rfl rfl)
theorem dX4_text_109 : decode cX4_text 109 = .ok (.iload_n 1, 1) := dk_27 (dk_at dksX4_text_4 15 rfl rfl)
theorem dX4_text_110 : decode cX4_text 110 = .ok (.iaload, 1) := dk_46 (dk_at dksX4_text_4 16 rfl rfl)
theorem dX4_text_111 : decode cX4_text 111 = .ok (.iastore, 1) := dk_79 (dk_at dksX4_text_4 17 rfl rfl)
theorem dX4_text_112 : decode cX4_text 112 = .ok (.iinc 1 1, 3) := dk_132 1 1 (dk_at dksX4_text_4 18 rfl rfl)
theorem dX4_text_115 : decode cX4_text 115 = .ok (.goto (-22), 3) := dk_167 255 234 (dk_at dksX4_text_4 21 rfl rfl)
theorem dX4_text_118 : decode cX4_text 118 = .ok (.bipush (-4), 2) := dk_16 252 (dk_at dksX4_text_5 0 rfl rfl)
theorem dX4_text_120 : decode cX4_text 120 = .ok (.aload_n 0, 1) := dk_42 (dk_at dksX4_text_5 2 rfl rfl)
theorem dX4_text_121 : decode cX4_text 121 = .ok (.getfield 82, 3) := dk_180 0 82 (dk_at dksX4_text_5 3 rfl rfl)
theorem dX4_text_124 : decode cX4_text 124 = .ok (.isub, 1) := dk_100 (dk_at dksX4_text_5 6 rfl rfl)
theorem dX4_text_125 : decode cX4_text 125 = .ok (.ireturn, 1) := dk_172 (dk_at dksX4_text_5 7 rfl rfl)
theorem dX4_text_126 : decode cX4_text 126 = .ok (.aload_n 0, 1) := dk_42 (dk_at dksX4_text_5 8 rfl rfl)
theorem dX4_text_127 : decode cX4_text 127 = .ok (.iconst 0, 1) := dk_3 (dk_at dksX4_text_5 9 rfl rfl)
theorem dX4_text_128 : decode cX4_text 128 = .ok (.putfield 152, 3) := dk_181 0 152 (dk_at dksX4_text_5 10 rfl rfl)
theorem dX4_text_131 : decode cX4_text 131 = .ok (.aload_n 0, 1) := dk_42 (dk_at dksX4_text_5 13 rfl rfl)
theorem dX4_text_132 : decode cX4_text 132 = .ok (.getfield 7, 3) := dk_180 0 7 (dk_at dksX4_text_5 14 rfl rfl)
theorem dX4_text_135 : decode cX4_text 135 = .ok (.iconst 1, 1) := dk_4 (dk_at dksX4_text_5 17 rfl rfl)
theorem dX4_text_136 : decode cX4_text 136 = .ok (.iaload, 1) := dk_46 (dk_at dksX4_text_5 18 rfl rfl)
theorem dX4_text_137 : decode cX4_text 137 = .ok (.ireturn, 1) := dk_172 (dk_at dksX4_text_5 19 rfl rfl)
def dkwX4_nextToken_13 : List UInt8 := [181, 0, 85, 177]
abbrev dktX4_nextToken_13 : List UInt8 := dkwX4_nextToken_13 ++ []
def dkwX4_nextToken_12 : List UInt8 := [181, 0, 105, 42, 42, 180, 0, 19, 42, 180, 0, 85, 46, 181, 0, 91, 42, 89, 180, 0, 85, 4, 96]
abbrev dktX4_nextToken_12 : List UInt8 := dkwX4_nextToken_12 ++ dktX4_nextToken_13
def dkwX4_nextToken_11 : List UInt8 := [46, 96, 16, 48, 100, 181, 0, 91, 42, 89, 180, 0, 85, 4, 96, 181, 0, 85, 167, 255, 193, 42, 6]
abbrev dktX4_nextToken_11 : List UInt8 := dkwX4_nextToken_11 ++ dktX4_nextToken_12
def dkwX4_nextToken_10 : List UInt8 := [6, 164, 0, 8, 18, 108, 167, 0, 23, 16, 10, 42, 180, 0, 91, 104, 42, 180, 0, 19, 42, 180, 0, 85]
abbrev dktX4_nextToken_10 : List UInt8 := dkwX4_nextToken_10 ++ dktX4_nextToken_11
def dkwX4_nextToken_9 : List UInt8 := [181, 0, 105, 42, 42, 180, 0, 85, 182, 0, 98, 153, 0, 86, 42, 42, 180, 0, 85, 42, 180, 0, 88, 100]
abbrev dktX4_nextToken_9 : List UInt8 := dkwX4_nextToken_9 ++ dktX4_nextToken_10
def dkwX4_nextToken_8 : List UInt8 := [180, 0, 85, 4, 96, 181, 0, 85, 167, 255, 235, 42, 42, 180, 0, 85, 182, 0, 98, 153, 0, 74, 42, 5]
abbrev dktX4_nextToken_8 : List UInt8 := dkwX4_nextToken_8 ++ dktX4_nextToken_9
def dkwX4_nextToken_7 : List UInt8 := [182, 0, 94, 153, 0, 32, 42, 4, 181, 0, 105, 42, 42, 180, 0, 85, 182, 0, 94, 153, 0, 126, 42, 89]
abbrev dktX4_nextToken_7 : List UInt8 := dkwX4_nextToken_7 ++ dktX4_nextToken_8
def dkwX4_nextToken_6 : List UInt8 := [42, 180, 0, 85, 42, 180, 0, 79, 160, 0, 11, 42, 3, 181, 0, 105, 167, 0, 153, 42, 42, 180, 0, 85]
abbrev dktX4_nextToken_6 : List UInt8 := dkwX4_nextToken_6 ++ dktX4_nextToken_7
def dkwX4_nextToken_5 : List UInt8 := [154, 0, 16, 42, 42, 180, 0, 85, 4, 100, 182, 0, 98, 153, 0, 11, 42, 42, 180, 0, 85, 182, 0, 101]
abbrev dktX4_nextToken_5 : List UInt8 := dkwX4_nextToken_5 ++ dktX4_nextToken_6
def dkwX4_nextToken_4 : List UInt8 := [154, 0, 14, 42, 42, 180, 0, 85, 182, 0, 98, 153, 0, 37, 42, 42, 180, 0, 85, 4, 100, 182, 0, 94]
abbrev dktX4_nextToken_4 : List UInt8 := dkwX4_nextToken_4 ++ dktX4_nextToken_5
def dkwX4_nextToken_3 : List UInt8 := [42, 180, 0, 85, 27, 160, 0, 66, 42, 180, 0, 85, 158, 0, 59, 42, 42, 180, 0, 85, 182, 0, 94]
abbrev dktX4_nextToken_3 : List UInt8 := dkwX4_nextToken_3 ++ dktX4_nextToken_4
def dkwX4_nextToken_2 : List UInt8 := [180, 0, 85, 4, 96, 181, 0, 85, 167, 255, 207, 42, 42, 180, 0, 85, 181, 0, 88, 42, 3, 181, 0, 91]
abbrev dktX4_nextToken_2 : List UInt8 := dkwX4_nextToken_2 ++ dktX4_nextToken_3
def dkwX4_nextToken_1 : List UInt8 := [46, 16, 32, 159, 0, 17, 42, 180, 0, 19, 42, 180, 0, 85, 46, 16, 10, 160, 0, 16, 42, 89]
abbrev dktX4_nextToken_1 : List UInt8 := dkwX4_nextToken_1 ++ dktX4_nextToken_2
def dkwX4_nextToken_0 : List UInt8 := [42, 180, 0, 85, 60, 42, 180, 0, 85, 42, 180, 0, 79, 162, 0, 44, 42, 180, 0, 19, 42, 180, 0, 85]
abbrev dktX4_nextToken_0 : List UInt8 := dkwX4_nextToken_0 ++ dktX4_nextToken_1
theorem dksX4_nextToken_0 : cX4_nextToken.data.toList.drop 0 = dktX4_nextToken_0 := by decide +kernel
theorem dksX4_nextToken_1 : cX4_nextToken.data.toList.drop 24 = dktX4_nextToken_1 := dk_seg dksX4_nextToken_0 24 rfl rfl
theorem dksX4_nextToken_2 : cX4_nextToken.data.toList.drop 46 = dktX4_nextToken_2 := dk_seg dksX4_nextToken_1 22 rfl rfl
theorem dksX4_nextToken_3 : cX4_nextToken.data.toList.drop 70 = dktX4_nextToken_3 := dk_seg dksX4_nextToken_2 24 rfl rfl
theorem dksX4_nextToken_4 : cX4_nextToken.data.toList.drop 93 = dktX4_nextToken_4 := dk_seg dksX4_nextToken_3 23 rfl rfl
theorem dksX4_nextToken_5 : cX4_nextToken.data.toList.drop 117 = dktX4_nextToken_5 := dk_seg dksX4_nextToken_4 24 rfl rfl
theorem dksX4_nextToken_6 : cX4_nextToken.data.toList.drop 141 = dktX4_nextToken_6 := dk_seg dksX4_nextToken_5 24 rfl rfl
theorem dksX4_nextToken_7 : cX4_nextToken.data.toList.drop 165 = dktX4_nextToken_7 := dk_seg dksX4_nextToken_6 24 rfl rfl
theorem dksX4_nextToken_8 : cX4_nextToken.data.toList.drop 189 = dktX4_nextToken_8 := dk_seg dksX4_nextToken_7 24 rfl rfl
theorem dksX4_nextToken_9 : cX4_nextToken.data.toList.drop 213 = dktX4_nextToken_9 := dk_seg dksX4_nextToken_8 24 rfl rfl
theorem dksX4_nextToken_10 : cX4_nextToken.data.toList.drop 237 = dktX4_nextToken_10 := dk_seg dksX4_nextToken_9 24 rfl rfl
theorem dksX4_nextToken_11 : cX4_nextToken.data.toList.drop 261 = dktX4_nextToken_11 := dk_seg dksX4_nextToken_10 24 rfl rfl
theorem dksX4_nextToken_12 : cX4_nextToken.data.toList.drop 284 = dktX4_nextToken_12 := dk_seg dksX4_nextToken_11 23 rfl rfl
theorem dksX4_nextToken_13 : cX4_nextToken.data.toList.drop 307 = dktX4_nextToken_13 := dk_seg dksX4_nextToken_12 23 rfl rfl
theorem dX4_nextToken_0 : decode cX4_nextToken 0 = .ok (.aload_n 0, 1) := dk_42 (dk_at dksX4_nextToken_0 0 rfl rfl)
theorem dX4_nextToken_1 : decode cX4_nextToken 1 = .ok (.getfield 85, 3) := dk_180 0 85 (dk_at dksX4_nextToken_0 1 rfl rfl)
theorem dX4_nextToken_4 : decode cX4_nextToken 4 = .ok (.istore_n 1, 1) := dk_60 (dk_at dksX4_nextToken_0 4 rfl rfl)
theorem dX4_nextToken_5 : decode cX4_nextToken 5 = .ok (.aload_n 0, 1) := dk_42 (dk_at dksX4_nextToken_0 5 rfl rfl)
theorem dX4_nextToken_6 : decode cX4_nextToken 6 = .ok (.getfield 85, 3) := dk_180 0 85 (dk_at dksX4_nextToken_0 6 rfl rfl)
theorem dX4_nextToken_9 : decode cX4_nextToken 9 = .ok (.aload_n 0, 1) := dk_42 (dk_at dksX4_nextToken_0 9 rfl rfl)
theorem dX4_nextToken_10 : decode cX4_nextToken 10 = .ok (.getfield 79, 3) := dk_180 0 79 (dk_at dksX4_nextToken_0 10 rfl rfl)
theorem dX4_nextToken_13 : decode cX4_nextToken 13 = .ok (.if_icmp .ge 44, 3) := dk_162 0 44 (dk_at dksX4_nextToken_0 13 rfl rfl)
theorem dX4_nextToken_16 : decode cX4_nextToken 16 = .ok (.aload_n 0, 1) := dk_42 (dk_at dksX4_nextToken_0 16 rfl rfl)
theorem dX4_nextToken_17 : decode cX4_nextToken 17 = .ok (.getfield 19, 3) := dk_180 0 19 (dk_at dksX4_nextToken_0 17 rfl rfl)
theorem dX4_nextToken_20 : decode cX4_nextToken 20 = .ok (.aload_n 0, 1) := dk_42 (dk_at dksX4_nextToken_0 20 rfl rfl)
theorem dX4_nextToken_21 : decode cX4_nextToken 21 = .ok (.getfield 85, 3) := dk_180 0 85 (dk_at dksX4_nextToken_0 21 rfl rfl)
theorem dX4_nextToken_24 : decode cX4_nextToken 24 = .ok (.iaload, 1) := dk_46 (dk_at dksX4_nextToken_1 0 rfl rfl)
theorem dX4_nextToken_25 : decode cX4_nextToken 25 = .ok (.bipush 32, 2) := dk_16 32 (dk_at dksX4_nextToken_1 1 rfl rfl)
theorem dX4_nextToken_27 : decode cX4_nextToken 27 = .ok (.if_icmp .eq 17, 3) := dk_159 0 17 (dk_at dksX4_nextToken_1 3 rfl rfl)
theorem dX4_nextToken_30 : decode cX4_nextToken 30 = .ok (.aload_n 0, 1) := dk_42 (dk_at dksX4_nextToken_1 6 rfl rfl)
theorem dX4_nextToken_31 : decode cX4_nextToken 31 = .ok (.getfield 19, 3) := dk_180 0 19 (dk_at dksX4_nextToken_1 7 rfl rfl)
theorem dX4_nextToken_34 : decode cX4_nextToken 34 = .ok (.aload_n 0, 1) := dk_42 (dk_at dksX4_nextToken_1 10 rfl rfl)
theorem dX4_nextToken_35 : decode cX4_nextToken 35 = .ok (.getfield 85, 3) := dk_180 0 85 (dk_at dksX4_nextToken_1 11 rfl rfl)
theorem dX4_nextToken_38 : decode cX4_nextToken 38 = .ok (.iaload, 1) := dk_46 (dk_at dksX4_nextToken_1 14 rfl rfl)
theorem dX4_nextToken_39 : decode cX4_nextToken 39 = .ok (.bipush 10, 2) := dk_16 10 (dk_at dksX4_nextToken_1 15 rfl rfl)
theorem dX4_nextToken_41 : decode cX4_nextToken 41 = .ok (.if_icmp .ne 16, 3) := dk_160 0 16 (dk_at dksX4_nextToken_1 17 rfl rfl)
theorem dX4_nextToken_44 : decode cX4_nextToken 44 = .ok (.aload_n 0, 1) := dk_42 (dk_at dksX4_nextToken_1 20 rfl rfl)
theorem dX4_nextToken_45 : decode cX4_nextToken 45 = .ok (.dup, 1) := dk_89 (dk_at dksX4_nextToken_1 21 rfl rfl)
theorem dX4_nextToken_46 : decode cX4_nextToken 46 = .ok (.getfield 85, 3) := dk_180 0 85 (dk_at dksX4_nextToken_2 0 rfl rfl)
theorem dX4_nextToken_49 : decode cX4_nextToken 49 = .ok (.iconst 1, 1) := dk_4 (dk_at dksX4_nextToken_2 3 rfl rfl)
theorem dX4_nextToken_50 : decode cX4_nextToken 50 = .ok (.iadd, 1) := dk_96 (dk_at dksX4_nextToken_2 4 rfl rfl)
theorem dX4_nextToken_51 : decode cX4_nextToken 51 = .ok (.putfield 85, 3) := dk_181 0 85 (dk_at dksX4_nextToken_2 5 rfl rfl)
theorem dX4_nextToken_54 : decode cX4_nextToken 54 = .ok (.goto (-49), 3) := dk_167 255 207 (dk_at dksX4_nextToken_2 8 rfl rfl)
theorem dX4_nextToken_57 : decode cX4_nextToken 57 = .ok (.aload_n 0, 1) := dk_42 (dk_at dksX4_nextToken_2 11 rfl rfl)
theorem dX4_nextToken_58 : decode cX4_nextToken 58 = .ok (.aload_n 0, 1) := dk_42 (dk_at dksX4_nextToken_2 12 rfl rfl)
theorem dX4_nextToken_59 : decode cX4_nextToken 59 = .ok (.getfield 85, 3) := dk_180 0 85 (dk_at dksX4_nextToken_2 13 rfl rfl)
theorem dX4_nextToken_62 : decode cX4_nextToken 62 = .ok (.putfield 88, 3) := dk_181 0 88 (dk_at dksX4_nextToken_2 16 rfl rfl)
theorem dX4_nextToken_65 : decode cX4_nextToken 65 = .ok (.aload_n 0, 1) := dk_42 (dk_at dksX4_nextToken_2 19 rfl rfl)
theorem dX4_nextToken_66 : decode cX4_nextToken 66 = .ok (.iconst 0, 1) := dk_3 (dk_at dksX4_nextToken_2 20 rfl rfl)
theorem dX4_nextToken_67 : decode cX4_nextToken 67 = .ok (.putfield 91, 3) := dk_181 0 91 (dk_at dksX4_nextToken_2 21 rfl rfl)
theorem dX4_nextToken_70 : decode cX4_nextToken 70 = .ok (.aload_n 0, 1) := dk_42 (dk_at dksX4_nextToken_3 0 rfl rfl)
theorem dX4_nextToken_71 : decode cX4_nextToken 71 = .ok (.getfield 85, 3) := dk_180 0 85 (dk_at dksX4_nextToken_3 1 rfl rfl)
theorem dX4_nextToken_74 : decode cX4_nextToken 74 = .ok (.iload_n 1, 1) := dk_27 (dk_at dksX4_nextToken_3 4 rfl rfl)
theorem dX4_nextToken_75 : decode cX4_nextToken 75 = .ok (.if_icmp .ne 66, 3) := dk_160 0 66 (dk_at dksX4_nextToken_3 5 rfl rfl)
theorem dX4_nextToken_78 : decode cX4_nextToken 78 = .ok (.aload_n 0, 1) := dk_42 (dk_at dksX4_nextToken_3 8 rfl rfl)
theorem dX4_nextToken_79 : decode cX4_nextToken 79 = .ok (.getfield 85, 3) := dk_180 0 85 (dk_at dksX4_nextToken_3 9 rfl rfl)
theorem dX4_nextToken_82 : decode cX4_nextToken 82 = .ok (.ifCond .le 59, 3) := dk_158 0 59 (dk_at dksX4_nextToken_3 12 rfl rfl)
theorem dX4_nextToken_85 : decode cX4_nextToken 85 = .ok (.aload_n 0, 1) := dk_42 (dk_at dksX4_nextToken_3 15 rfl rfl)
theorem dX4_nextToken_86 : decode cX4_nextToken 86 = .ok (.aload_n 0, 1) := dk_42 (dk_at dksX4_nextToken_3 16 rfl rfl)
theorem dX4_nextToken_87 : decode cX4_nextToken 87 = .ok (.getfield 85, 3) := dk_180 0 85 (dk_at dksX4_nextToken_3 17 rfl rfl)
theorem dX4_nextToken_90 : decode cX4_nextToken 90 = .ok (.invokevirtual 94, 3) := dk_182 0 94 (dk_at dksX4_nextToken_3 20 rfl rfl)
theorem dX4_nextToken_93 : decode cX4_nextToken 93 = .ok (.ifCond .ne 14, 3) := dk_154 0 14 (dk_at dksX4_nextToken_4 0 rfl rfl)
theorem dX4_nextToken_96 : decode cX4_nextToken 96 = .ok (.aload_n 0, 1) := dk_42 (dk_at dksX4_nextToken_4 3 rfl rfl)
theorem dX4_nextToken_97 : decode cX4_nextToken 97 = .ok (.aload_n 0, 1) := dk_42 (dk_at dksX4_nextToken_4 4 rfl rfl)
theorem dX4_nextToken_98 : decode cX4_nextToken 98 = .ok (.getfield 85, 3) := dk_180 0 85 (dk_at dksX4_nextToken_4 5 rfl rfl)
theorem dX4_nextToken_101 : decode cX4_nextToken 101 = .ok (.invokevirtual 98, 3) := dk_182 0 98 (dk_at dksX4_nextToken_4 8 rfl rfl)
theorem dX4_nextToken_104 : decode cX4_nextToken 104 = .ok (.ifCond .eq 37, 3) := dk_153 0 37 (dk_at dksX4_nextToken_4 11 rfl rfl)
theorem dX4_nextToken_107 : decode cX4_nextToken 107 = .ok (.aload_n 0, 1) := dk_42 (dk_at dksX4_nextToken_4 14 rfl rfl)
theorem dX4_nextToken_108 : decode cX4_nextToken 108 = .ok (.aload_n 0, 1) := dk_42 (dk_at dksX4_nextToken_4 15 rfl rfl)
theorem dX4_nextToken_109 : decode cX4_nextToken 109 = .ok (.getfield 85, 3) := dk_180 0 85 (dk_at dksX4_nextToken_4 16 rfl rfl)
theorem dX4_nextToken_112 : decode cX4_nextToken 112 = .ok (.iconst 1, 1) := dk_4 (dk_at dksX4_nextToken_4 19 rfl rfl)
theorem dX4_nextToken_113 : decode cX4_nextToken 113 = .ok (.isub, 1) := dk_100 (dk_at dksX4_nextToken_4 20 rfl rfl)
theorem dX4_nextToken_114 : decode cX4_nextToken 114 = .ok (.invokevirtual 94, 3) := dk_182 0 94 (dk_at dksX4_nextToken_4 21 rfl rfl)
theorem dX4_nextToken_117 : decode cX4_nextToken 117 = .ok (.ifCond .ne 16, 3) := dk_154 0 16 (dk_at dksX4_nextToken_5 0 rfl rfl)
theorem dX4_nextToken_120 : decode cX4_nextToken 120 = .ok (.aload_n 0, 1) := dk_42 (dk_at dksX4_nextToken_5 3 rfl rfl)
theorem dX4_nextToken_121 : decode cX4_nextToken 121 = .ok (.aload_n 0, 1) := dk_42 (dk_at dksX4_nextToken_5 4 rfl rfl)
theorem dX4_nextToken_122 : decode cX4_nextToken 122 = .ok (.getfield 85, 3) := dk_180 0 85 (dk_at dksX4_nextToken_5 5 rfl rfl)
theorem dX4_nextToken_125 : decode cX4_nextToken 125 = .ok (.iconst 1, 1) := dk_4 (dk_at dksX4_nextToken_5 8 rfl rfl)
theorem dX4_nextToken_126 : decode cX4_nextToken 126 = .ok (.isub, 1) := dk_100 (dk_at dksX4_nextToken_5 9 rfl rfl)
theorem dX4_nextToken_127 : decode cX4_nextToken 127 = .ok (.invokevirtual 98, 3) := dk_182 0 98 (dk_at dksX4_nextToken_5 10 rfl rfl)
theorem dX4_nextToken_130 : decode cX4_nextToken 130 = .ok (.ifCond .eq 11, 3) := dk_153 0 11 (dk_at dksX4_nextToken_5 13 rfl rfl)
theorem dX4_nextToken_133 : decode cX4_nextToken 133 = .ok (.aload_n 0, 1) := dk_42 (dk_at dksX4_nextToken_5 16 rfl rfl)
theorem dX4_nextToken_134 : decode cX4_nextToken 134 = .ok (.aload_n 0, 1) := dk_42 (dk_at dksX4_nextToken_5 17 rfl rfl)
theorem dX4_nextToken_135 : decode cX4_nextToken 135 = .ok (.getfield 85, 3) := dk_180 0 85 (dk_at dksX4_nextToken_5 18 rfl rfl)
theorem dX4_nextToken_138 : decode cX4_nextToken 138 = .ok (.invokevirtual 101, 3) := dk_182 0 101 (dk_at dksX4_nextToken_5 21 rfl rfl)
theorem dX4_nextToken_141 : decode cX4_nextToken 141 = .ok (.aload_n 0, 1) := dk_42 (dk_at dksX4_nextToken_6 0 rfl rfl)
theorem dX4_nextToken_142 : decode cX4_nextToken 142 = .ok (.getfield 85, 3) := dk_180 0 85 (dk_at dksX4_nextToken_6 1 rfl rfl)
theorem dX4_nextToken_145 : decode cX4_nextToken 145 = .ok (.aload_n 0, 1) := dk_42 (dk_at dksX4_nextToken_6 4 rfl rfl)
theorem dX4_nextToken_146 : decode cX4_nextToken 146 = .ok (.getfield 79, 3) := dk_180 0 79 (dk_at dksX4_nextToken_6 5 rfl rfl)
theorem dX4_nextToken_149 : decode cX4_nextToken 149 = .ok (.if_icmp .ne 11, 3) := dk_160 0 11 (dk_at dksX4_nextToken_6 8 rfl rfl)
theorem dX4_nextToken_152 : decode cX4_nextToken 152 = .ok (.aload_n 0, 1) := dk_42 (dk_at dksX4_nextToken_6 11 rfl rfl)
theorem dX4_nextToken_153 : decode cX4_nextToken 153 = .ok (.iconst 0, 1) := dk_3 (dk_at dksX4_nextToken_6 12 rfl rfl)
theorem dX4_nextToken_154 : decode cX4_nextToken 154 = .ok (.putfield 105, 3) := dk_181 0 105 (dk_at dksX4_nextToken_6 13 rfl rfl)
theorem dX4_nextToken_157 : decode cX4_nextToken 157 = .ok (.goto 153, 3) := dk_167 0 153 (dk_at dksX4_nextToken_6 16 rfl rfl)
theorem dX4_nextToken_160 : decode cX4_nextToken 160 = .ok (.aload_n 0, 1) := dk_42 (dk_at dksX4_nextToken_6 19 rfl rfl)
theorem dX4_nextToken_161 : decode cX4_nextToken 161 = .ok (.aload_n 0, 1) := dk_42 (dk_at dksX4_nextToken_6 20 rfl rfl)
theorem dX4_nextToken_162 : decode cX4_nextToken 162 = .ok (.getfield 85, 3) := dk_180 0 85 (dk_at dksX4_nextToken_6 21 rfl rfl)
theorem dX4_nextToken_165 : decode cX4_nextToken 165 = .ok (.invokevirtual 94, 3) := dk_182 0 94 (dk_at dksX4_nextToken_7 0 rfl rfl)
theorem dX4_nextToken_168 : decode cX4_nextToken 168 = .ok (.ifCond .eq 32, 3) := dk_153 0 32 (dk_at dksX4_nextToken_7 3 rfl rfl)
theorem dX4_nextToken_171 : decode cX4_nextToken 171 = .ok (.aload_n 0, 1) := dk_42 (dk_at dksX4_nextToken_7 6 rfl rfl)
theorem dX4_nextToken_172 : decode cX4_nextToken 172 = .ok (.iconst 1, 1) := dk_4 (dk_at dksX4_nextToken_7 7 rfl rfl)
theorem dX4_nextToken_173 : decode cX4_nextToken 173 = .ok (.putfield 105, 3) := dk_181 0 105 (dk_at dksX4_nextToken_7 8 rfl rfl)
theorem dX4_nextToken_176 : decode cX4_nextToken 176 = .ok (.aload_n 0, 1) := dk_42 (dk_at dksX4_nextToken_7 11 rfl rfl)
theorem dX4_nextToken_177 : decode cX4_nextToken 177 = .ok (.aload_n 0, 1) := dk_42 (dk_at dksX4_nextToken_7 12 rfl rfl)
theorem dX4_nextToken_178 : decode cX4_nextToken 178 = .ok (.getfield 85, 3) := dk_180 0 85 (dk_at dksX4_nextToken_7 13 rfl rfl)
theorem dX4_nextToken_181 : decode cX4_nextToken 181 = .ok (.invokevirtual 94, 3) := dk_182 0 94 (dk_at dksX4_nextToken_7 16 rfl rfl)
theorem dX4_nextToken_184 : decode cX4_nextToken 184 = .ok (.ifCond .eq 126, 3) := dk_153 0 126 (dk_at dksX4_nextToken_7 19 rfl rfl)
theorem dX4_nextToken_187 : decode cX4_nextToken 187 = .ok (.aload_n 0, 1) := dk_42 (dk_at dksX4_nextToken_7 22 rfl rfl)
theorem dX4_nextToken_188 : decode cX4_nextToken 188 = .ok (.dup, 1) := dk_89 (dk_at dksX4_nextToken_7 23 rfl rfl)
theorem dX4_nextToken_189 : decode cX4_nextToken 189 = .ok (.getfield 85, 3) := dk_180 0 85 (dk_at dksX4_nextToken_8 0 rfl rfl)
theorem dX4_nextToken_192 : decode cX4_nextToken 192 = .ok (.iconst 1, 1) := dk_4 (dk_at dksX4_nextToken_8 3 rfl rfl)
theorem dX4_nextToken_193 : decode cX4_nextToken 193 = .ok (.iadd, 1) := dk_96 (dk_at dksX4_nextToken_8 4 rfl rfl)
theorem dX4_nextToken_194 : decode cX4_nextToken 194 = .ok (.putfield 85, 3) := dk_181 0 85 (dk_at dksX4_nextToken_8 5 rfl rfl)
theorem dX4_nextToken_197 : decode cX4_nextToken 197 = .ok (.goto (-21), 3) := dk_167 255 235 (dk_at dksX4_nextToken_8 8 rfl rfl)
theorem dX4_nextToken_200 : decode cX4_nextToken 200 = .ok (.aload_n 0, 1) := dk_42 (dk_at dksX4_nextToken_8 11 rfl rfl)
theorem dX4_nextToken_201 : decode cX4_nextToken 201 = .ok (.aload_n 0, 1) := dk_42 (dk_at dksX4_nextToken_8 12 rfl rfl)
theorem dX4_nextToken_202 : decode cX4_nextToken 202 = .ok (.getfield 85, 3) := dk_180 0 85 (dk_at dksX4_nextToken_8 13 rfl rfl)
theorem dX4_nextToken_205 : decode cX4_nextToken 205 = .ok (.invokevirtual 98, 3) := dk_182 0 98 (dk_at dksX4_nextToken_8 16 rfl rfl)
theorem dX4_nextToken_208 : decode cX4_nextToken 208 = .ok (.ifCond .eq 74, 3) := dk_153 0 74 (dk_at dksX4_nextToken_8 19 rfl rfl)
theorem dX4_nextToken_211 : decode cX4_nextToken 211 = .ok (.aload_n 0, 1) := dk_42 (dk_at dksX4_nextToken_8 22 rfl rfl)
theorem dX4_nextToken_212 : decode cX4_nextToken 212 = .ok (.iconst 2, 1) := dk_5 (dk_at dksX4_nextToken_8 23 rfl rfl)
theorem dX4_nextToken_213 : decode cX4_nextToken 213 = .ok (.putfield 105, 3) := dk_181 0 105 (dk_at dksX4_nextToken_9 0 rfl rfl)
theorem dX4_nextToken_216 : decode cX4_nextToken 216 = .ok (.aload_n 0, 1) := dk_42 (dk_at dksX4_nextToken_9 3 rfl rfl)
theorem dX4_nextToken_217 : decode cX4_nextToken 217 = .ok (.aload_n 0, 1) := dk_42 (dk_at dksX4_nextToken_9 4 rfl rfl)
theorem dX4_nextToken_218 : decode cX4_nextToken 218 = .ok (.getfield 85, 3) := dk_180 0 85 (dk_at dksX4_nextToken_9 5 rfl rfl)
theorem dX4_nextToken_221 : decode cX4_nextToken 221 = .ok (.invokevirtual 98, 3) := dk_182 0 98 (dk_at dksX4_nextToken_9 8 rfl rfl)
theorem dX4_nextToken_224 : decode cX4_nextToken 224 = .ok (.ifCond .eq 86, 3) := dk_153 0 86 (dk_at dksX4_nextToken_9 11 rfl rfl)
theorem dX4_nextToken_227 : decode cX4_nextToken 227 = .ok (.aload_n 0, 1) := dk_42 (dk_at dksX4_nextToken_9 14 rfl rfl)
theorem dX4_nextToken_228 : decode cX4_nextToken 228 = .ok (.aload_n 0, 1) := dk_42 (dk_at dksX4_nextToken_9 15 rfl rfl)
theorem dX4_nextToken_229 : decode cX4_nextToken 229 = .ok (.getfield 85, 3) := dk_180 0 85 (dk_at dksX4_nextToken_9 16 rfl rfl)
theorem dX4_nextToken_232 : decode cX4_nextToken 232 = .ok (.aload_n 0, 1) := dk_42 (dk_at dksX4_nextToken_9 19 rfl rfl)
theorem dX4_nextToken_233 : decode cX4_nextToken 233 = .ok (.getfield 88, 3) := dk_180 0 88 (dk_at dksX4_nextToken_9 20 rfl rfl)
theorem dX4_nextToken_236 : decode cX4_nextToken 236 = .ok (.isub, 1) := dk_100 (dk_at dksX4_nextToken_9 23 rfl rfl)
theorem dX4_nextToken_237 : decode cX4_nextToken 237 = .ok (.iconst 3, 1) := dk_6 (dk_at dksX4_nextToken_10 0 rfl rfl)
theorem dX4_nextToken_238 : decode cX4_nextToken 238 = .ok (.if_icmp .le 8, 3) := dk_164 0 8 (dk_at dksX4_nextToken_10 1 rfl rfl)
theorem dX4_nextToken_241 : decode cX4_nextToken 241 = .ok (.ldc 108, 2) := dk_18 108 (dk_at dksX4_nextToken_10 4 rfl rfl)
theorem dX4_nextToken_243 : decode cX4_nextToken 243 = .ok (.goto 23, 3) := dk_167 0 23 (dk_at dksX4_nextToken_10 6 rfl rfl)
theorem dX4_nextToken_246 : decode cX4_nextToken 246 = .ok (.bipush 10, 2) := dk_16 10 (dk_at dksX4_nextToken_10 9 rfl rfl)
theorem dX4_nextToken_248 : decode cX4_nextToken 248 = .ok (.aload_n 0, 1) := dk_42 (dk_at dksX4_nextToken_10 11 rfl rfl)
theorem dX4_nextToken_249 : decode cX4_nextToken 249 = .ok (.getfield 91, 3) := dk_180 0 91 (dk_at dksX4_nextToken_10 12 rfl rfl)
theorem dX4_nextToken_252 : decode cX4_nextToken 252 = .ok (.imul, 1) := dk_104 (dk_at dksX4_nextToken_10 15 rfl rfl)
theorem dX4_nextToken_253 : decode cX4_nextToken 253 = .ok (.aload_n 0, 1) := dk_42 (dk_at dksX4_nextToken_10 16 rfl rfl)
theorem dX4_nextToken_254 : decode cX4_nextToken 254 = .ok (.getfield 19, 3) := dk_180 0 19 (dk_at dksX4_nextToken_10 17 rfl rfl)
theorem dX4_nextToken_257 : decode cX4_nextToken 257 = .ok (.aload_n 0, 1) := dk_42 (dk_at dksX4_nextToken_10 20 rfl rfl)
theorem dX4_nextToken_258 : decode cX4_nextToken 258 = .ok (.getfield 85, 3) := dk_180 0 85 (dk_at dksX4_nextToken_10 21 rfl rfl)
theorem dX4_nextToken_261 : decode cX4_nextToken 261 = .ok (.iaload, 1) := dk_46 (dk_at dksX4_nextToken_11 0 rfl rfl)
theorem dX4_nextToken_262 : decode cX4_nextToken 262 = .ok (.iadd, 1) := dk_96 (dk_at dksX4_nextToken_11 1 rfl rfl)
theorem dX4_nextToken_263 : decode cX4_nextToken 263 = .ok (.bipush 48, 2) := dk_16 48 (dk_at dksX4_nextToken_11 2 rfl rfl)
theorem dX4_nextToken_265 : decode cX4_nextToken 265 = .ok (.isub, 1) := dk_100 (dk_at dksX4_nextToken_11 4 rfl rfl)
theorem dX4_nextToken_266 : decode cX4_nextToken 266 = .ok (.putfield 91, 3) := dk_181 0 91 (dk_at dksX4_nextToken_11 5 rfl rfl)
theorem dX4_nextToken_269 : decode cX4_nextToken 269 = .ok (.aload_n 0, 1) := dk_42 (dk_at dksX4_nextToken_11 8 rfl rfl)
theorem dX4_nextToken_270 : decode cX4_nextToken 270 = .ok (.dup, 1) := dk_89 (dk_at dksX4_nextToken_11 9 rfl rfl)
theorem dX4_nextToken_271 : decode cX4_nextToken 271 = .ok (.getfield 85, 3) := dk_180 0 85 (dk_at dksX4_nextToken_11 10 rfl rfl)
theorem dX4_nextToken_274 : decode cX4_nextToken 274 = .ok (.iconst 1, 1) := dk_4 (dk_at dksX4_nextToken_11 13 rfl rfl)
theorem dX4_nextToken_275 : decode cX4_nextToken 275 = .ok (.iadd, 1) := dk_96 (dk_at dksX4_nextToken_11 14 rfl rfl)
theorem dX4_nextToken_276 : decode cX4_nextToken 276 = .ok (.putfield 85, 3) := dk_181 0 85 (dk_at dksX4_nextToken_11 15 rfl rfl)
theorem dX4_nextToken_279 : decode cX4_nextToken 279 = .ok (.goto (-63), 3) := dk_167 255 193 (dk_at dksX4_nextToken_11 18 rfl rfl)
theorem dX4_nextToken_282 : decode cX4_nextToken 282 = .ok (.aload_n 0, 1) := dk_42 (dk_at dksX4_nextToken_11 21 rfl rfl)
theorem dX4_nextToken_283 : decode cX4_nextToken 283 = .ok (.iconst 3, 1) := dk_6 (dk_at dksX4_nextToken_11 22 rfl rfl)
theorem dX4_nextToken_284 : decode cX4_nextToken 284 = .ok (.putfield 105, 3) := dk_181 0 105 (dk_at dksX4_nextToken_12 0 rfl rfl)
theorem dX4_nextToken_287 : decode cX4_nextToken 287 = .ok (.aload_n 0, 1) := dk_42 (dk_at dksX4_nextToken_12 3 rfl rfl)
theorem dX4_nextToken_288 : decode cX4_nextToken 288 = .ok (.aload_n 0, 1) := dk_42 (dk_at dksX4_nextToken_12 4 rfl rfl)
theorem dX4_nextToken_289 : decode cX4_nextToken 289 = .ok (.getfield 19, 3) := dk_180 0 19 (dk_at dksX4_nextToken_12 5 rfl rfl)
theorem dX4_nextToken_292 : decode cX4_nextToken 292 = .ok (.aload_n 0, 1) := dk_42 (dk_at dksX4_nextToken_12 8 rfl rfl)
theorem dX4_nextToken_293 : decode cX4_nextToken 293 = .ok (.getfield 85, 3) := dk_180 0 85 (dk_at dksX4_nextToken_12 9 rfl rfl)
theorem dX4_nextToken_296 : decode cX4_nextToken 296 = .ok (.iaload, 1) := dk_46 (dk_at dksX4_nextToken_12 12 rfl rfl)
theorem dX4_nextToken_297 : decode cX4_nextToken 297 = .ok (.putfield 91, 3) := dk_181 0 91 (dk_at dksX4_nextToken_12 13 rfl rfl)
theorem dX4_nextToken_300 : decode cX4_nextToken 300 = .ok (.aload_n 0, 1) := dk_42 (dk_at dksX4_nextToken_12 16 rfl rfl)
theorem dX4_nextToken_301 : decode cX4_nextToken 301 = .ok (.dup, 1) := dk_89 (dk_at dksX4_nextToken_12 17 rfl rfl)
theorem dX4_nextToken_302 : decode cX4_nextToken 302 = .ok (.getfield 85, 3) := dk_180 0 85 (dk_at dksX4_nextToken_12 18 rfl rfl)
theorem dX4_nextToken_305 : decode cX4_nextToken 305 = .ok (.iconst 1, 1) := dk_4 (dk_at dksX4_nextToken_12 21 rfl rfl)
theorem dX4_nextToken_306 : decode cX4_nextToken 306 = .ok (.iadd, 1) := dk_96 (dk_at dksX4_nextToken_12 22 rfl rfl)
theorem dX4_nextToken_307 : decode cX4_nextToken 307 = .ok (.putfield 85, 3) := dk_181 0 85 (dk_at dksX4_nextToken_13 0 rfl rfl)
theorem dX4_nextToken_310 : decode cX4_nextToken 310 = .ok (.return_, 1) := dk_177 (dk_at dksX4_nextToken_13 3 rfl rfl)
def dkwX4_isLetter_1 : List UInt8 := [4, 167, 0, 4, 3, 172]
abbrev dktX4_isLetter_1 : List UInt8 := dkwX4_isLetter_1 ++ []
def dkwX4_isLetter_0 : List UInt8 := [27, 42, 180, 0, 79, 162, 0, 23, 42, 180, 0, 19, 27, 46, 16, 97, 16, 122, 184, 0, 68, 153, 0, 7]
abbrev dktX4_isLetter_0 : List UInt8 := dkwX4_isLetter_0 ++ dktX4_isLetter_1
theorem dksX4_isLetter_0 : cX4_isLetter.data.toList.drop 0 = dktX4_isLetter_0 := by decide +kernel
theorem dksX4_isLetter_1 : cX4_isLetter.data.toList.drop 24 = dktX4_isLetter_1 := dk_seg dksX4_isLetter_0 24 rfl rfl
theorem dX4_isLetter_0 : decode cX4_isLetter 0 = .ok (.iload_n 1, 1) := dk_27 (dk_at dksX4_isLetter_0 0 rfl rfl)
theorem dX4_isLetter_1 : decode cX4_isLetter 1 = .ok (.aload_n 0, 1) := dk_42 (dk_at dksX4_isLetter_0 1 rfl rfl)
theorem dX4_isLetter_2 : decode cX4_isLetter 2 = .ok (.getfield 79, 3) := dk_180 0 79 (dk_at dksX4_isLetter_0 2 rfl rfl)
theorem dX4_isLetter_5 : decode cX4_isLetter 5 = .ok (.if_icmp .ge 23, 3) := dk_162 0 23 (dk_at dksX4_isLetter_0 5 rfl rfl)
theorem dX4_isLetter_8 : decode cX4_isLetter 8 = .ok (.aload_n 0, 1) := dk_42 (dk_at dksX4_isLetter_0 8 rfl rfl)
theorem dX4_isLetter_9 : decode cX4_isLetter 9 = .ok (.getfield 19, 3) := dk_180 0 19 (dk_at dksX4_isLetter_0 9 rfl rfl)
theorem dX4_isLetter_12 : decode cX4_isLetter 12 = .ok (.iload_n 1, 1) := dk_27 (dk_at dksX4_isLetter_0 12 rfl rfl)
theorem dX4_isLetter_13 : decode cX4_isLetter 13 = .ok (.iaload, 1) := dk_46 (dk_at dksX4_isLetter_0 13 rfl rfl)
theorem dX4_isLetter_14 : decode cX4_isLetter 14 = .ok (.bipush 97, 2) := dk_16 97 (dk_at dksX4_isLetter_0 14 rfl rfl)
theorem dX4_isLetter_16 : decode cX4_isLetter 16 = .ok (.bipush 122, 2) := dk_16 122 (dk_at dksX4_isLetter_0 16 rfl rfl)
theorem dX4_isLetter_18 : decode cX4_isLetter 18 = .ok (.invokestatic 68, 3) := dk_184 0 68 (dk_at dksX4_isLetter_0 18 rfl rfl)
theorem dX4_isLetter_21 : decode cX4_isLetter 21 = .ok (.ifCond .eq 7, 3) := dk_153 0 7 (dk_at dksX4_isLetter_0 21 rfl rfl)
theorem dX4_isLetter_24 : decode cX4_isLetter 24 = .ok (.iconst 1, 1) := dk_4 (dk_at dksX4_isLetter_1 0 rfl rfl)
theorem dX4_isLetter_25 : decode cX4_isLetter 25 = .ok (.goto 4, 3) := dk_167 0 4 (dk_at dksX4_isLetter_1 1 rfl rfl)
theorem dX4_isLetter_28 : decode cX4_isLetter 28 = .ok (.iconst 0, 1) := dk_3 (dk_at dksX4_isLetter_1 4 rfl rfl)
theorem dX4_isLetter_29 : decode cX4_isLetter 29 = .ok (.ireturn, 1) := dk_172 (dk_at dksX4_isLetter_1 5 rfl rfl)
def dkwX4_isDigit_1 : List UInt8 := [4, 167, 0, 4, 3, 172]
abbrev dktX4_isDigit_1 : List UInt8 := dkwX4_isDigit_1 ++ []
def dkwX4_isDigit_0 : List UInt8 := [27, 42, 180, 0, 79, 162, 0, 23, 42, 180, 0, 19, 27, 46, 16, 48, 16, 57, 184, 0, 68, 153, 0, 7]
abbrev dktX4_isDigit_0 : List UInt8 := dkwX4_isDigit_0 ++ dktX4_isDigit_1
theorem dksX4_isDigit_0 : cX4_isDigit.data.toList.drop 0 = dktX4_isDigit_0 := by decide +kernel
theorem dksX4_isDigit_1 : cX4_isDigit.data.toList.drop 24 = dktX4_isDigit_1 := dk_seg dksX4_isDigit_0 24 rfl rfl
theorem dX4_isDigit_0 : decode cX4_isDigit 0 = .ok (.iload_n 1, 1) := dk_27 (dk_at dksX4_isDigit_0 0 rfl rfl)
theorem dX4_isDigit_1 : decode cX4_isDigit 1 = .ok (.aload_n 0, 1) := dk_42 (dk_at dksX4_isDigit_0 1 rfl rfl)
theorem dX4_isDigit_2 : decode cX4_isDigit 2 = .ok (.getfield 79, 3) := dk_180 0 79 (dk_at dksX4_isDigit_0 2 rfl rfl)
theorem dX4_isDigit_5 : decode cX4_isDigit 5 = .ok (.if_icmp .ge 23, 3) := dk_162 0 23 (dk_at dksX4_isDigit_0 5 rfl rfl)
theorem dX4_isDigit_8 : decode cX4_isDigit 8 = .ok (.aload_n 0, 1) := dk_42 (dk_at dksX4_isDigit_0 8 rfl rfl)
theorem dX4_isDigit_9 : decode cX4_isDigit 9 = .ok (.getfield 19, 3) := dk_180 0 19 (dk_at dksX4_isDigit_0 9 rfl rfl)
theorem dX4_isDigit_12 : decode cX4_isDigit 12 = .ok (.iload_n 1, 1) := dk_27 (dk_at dksX4_isDigit_0 12 rfl rfl)
theorem dX4_isDigit_13 : decode cX4_isDigit 13 = .ok (.iaload, 1) := dk_46 (dk_at dksX4_isDigit_0 13 rfl rfl)
theorem dX4_isDigit_14 : decode cX4_isDigit 14 = .ok (.bipush 48, 2) := dk_16 48 (dk_at dksX4_isDigit_0 14 rfl rfl)
theorem dX4_isDigit_16 : decode cX4_isDigit 16 = .ok (.bipush 57, 2) := dk_16 57 (dk_at dksX4_isDigit_0 16 rfl rfl)
theorem dX4_isDigit_18 : decode cX4_isDigit 18 = .ok (.invokestatic 68, 3) := dk_184 0 68 (dk_at dksX4_isDigit_0 18 rfl rfl)
theorem dX4_isDigit_21 : decode cX4_isDigit 21 = .ok (.ifCond .eq 7, 3) := dk_153 0 7 (dk_at dksX4_isDigit_0 21 rfl rfl)
theorem dX4_isDigit_24 : decode cX4_isDigit 24 = .ok (.iconst 1, 1) := dk_4 (dk_at dksX4_isDigit_1 0 rfl rfl)
theorem dX4_isDigit_25 : decode cX4_isDigit 25 = .ok (.goto 4, 3) := dk_167 0 4 (dk_at dksX4_isDigit_1 1 rfl rfl)
theorem dX4_isDigit_28 : decode cX4_isDigit 28 = .ok (.iconst 0, 1) := dk_3 (dk_at dksX4_isDigit_1 4 rfl rfl)
theorem dX4_isDigit_29 : decode cX4_isDigit 29 = .ok (.ireturn, 1) := dk_172 (dk_at dksX4_isDigit_1 5 rfl rfl)
def dkwX4_wrong_0 : List UInt8 := [42, 180, 0, 82, 2, 160, 0, 8, 42, 27, 181, 0, 82, 177]
abbrev dktX4_wrong_0 : List UInt8 := dkwX4_wrong_0 ++ []
theorem dksX4_wrong_0 : cX4_wrong.data.toList.drop 0 = dktX4_wrong_0 := by decide +kernel
theorem dX4_wrong_0 : decode cX4_wrong 0 = .ok (.aload_n 0, 1) := dk_42 (dk_at dksX4_wrong_0 0 rfl rfl)
theorem dX4_wrong_1 : decode cX4_wrong 1 = .ok (.getfield 82, 3) := dk_180 0 82 (dk_at dksX4_wrong_0 1 rfl rfl)
theorem dX4_wrong_4 : decode cX4_wrong 4 = .ok (.iconst (-1), 1) := dk_2 (dk_at dksX4_wrong_0 4 rfl rfl)
theorem dX4_wrong_5 : decode cX4_wrong 5 = .ok (.if_icmp .ne 8, 3) := dk_160 0 8 (dk_at dksX4_wrong_0 5 rfl rfl)
theorem dX4_wrong_8 : decode cX4_wrong 8 = .ok (.aload_n 0, 1) := dk_42 (dk_at dksX4_wrong_0 8 rfl rfl)
theorem dX4_wrong_9 : decode cX4_wrong 9 = .ok (.iload_n 1, 1) := dk_27 (dk_at dksX4_wrong_0 9 rfl rfl)
theorem dX4_wrong_10 : decode cX4_wrong 10 = .ok (.putfield 82, 3) := dk_181 0 82 (dk_at dksX4_wrong_0 10 rfl rfl)
theorem dX4_wrong_13 : decode cX4_wrong 13 = .ok (.return_, 1) := dk_177 (dk_at dksX4_wrong_0 13 rfl rfl)
def dkwX4_readLine_6 : List UInt8 := [182, 0, 113, 177]
abbrev dktX4_readLine_6 : List UInt8 := dkwX4_readLine_6 ++ []
def dkwX4_readLine_5 : List UInt8 := [16, 59, 159, 0, 11, 42, 42, 180, 0, 88, 182, 0, 101, 42, 180, 0, 82, 2, 160, 0, 7, 42]
abbrev dktX4_readLine_5 : List UInt8 := dkwX4_readLine_5 ++ dktX4_readLine_6
def dkwX4_readLine_4 : List UInt8 := [182, 0, 101, 42, 180, 0, 82, 2, 160, 0, 28, 42, 180, 0, 105, 6, 160, 0, 12, 42, 180, 0, 91]
abbrev dktX4_readLine_4 : List UInt8 := dkwX4_readLine_4 ++ dktX4_readLine_5
def dkwX4_readLine_3 : List UInt8 := [20, 0, 147, 182, 0, 125, 153, 0, 11, 42, 4, 182, 0, 144, 167, 0, 11, 42, 42, 180, 0, 88]
abbrev dktX4_readLine_3 : List UInt8 := dkwX4_readLine_3 ++ dktX4_readLine_4
def dkwX4_readLine_2 : List UInt8 := [167, 0, 47, 42, 20, 0, 142, 182, 0, 125, 153, 0, 11, 42, 3, 182, 0, 144, 167, 0, 29, 42]
abbrev dktX4_readLine_2 : List UInt8 := dkwX4_readLine_2 ++ dktX4_readLine_3
def dkwX4_readLine_1 : List UInt8 := [153, 0, 10, 42, 182, 0, 134, 167, 0, 64, 42, 20, 0, 137, 182, 0, 125, 153, 0, 10, 42, 182, 0, 139]
abbrev dktX4_readLine_1 : List UInt8 := dkwX4_readLine_1 ++ dktX4_readLine_2
def dkwX4_readLine_0 : List UInt8 := [42, 20, 0, 123, 182, 0, 125, 153, 0, 10, 42, 182, 0, 129, 167, 0, 81, 42, 20, 0, 132, 182, 0, 125]
abbrev dktX4_readLine_0 : List UInt8 := dkwX4_readLine_0 ++ dktX4_readLine_1
theorem dksX4_readLine_0 : cX4_readLine.data.toList.drop 0 = dktX4_readLine_0 := by decide +kernel
theorem dksX4_readLine_1 : cX4_readLine.data.toList.drop 24 = dktX4_readLine_1 := dk_seg dksX4_readLine_0 24 rfl rfl
theorem dksX4_readLine_2 : cX4_readLine.data.toList.drop 48 = dktX4_readLine_2 := dk_seg dksX4_readLine_1 24 rfl rfl
theorem dksX4_readLine_3 : cX4_readLine.data.toList.drop 70 = dktX4_readLine_3 := dk_seg dksX4_readLine_2 22 rfl rfl
theorem dksX4_readLine_4 : cX4_readLine.data.toList.drop 92 = dktX4_readLine_4 := dk_seg dksX4_readLine_3 22 rfl rfl
theorem dksX4_readLine_5 : cX4_readLine.data.toList.drop 115 = dktX4_readLine_5 := dk_seg dksX4_readLine_4 23 rfl rfl
theorem dksX4_readLine_6 : cX4_readLine.data.toList.drop 137 = dktX4_readLine_6 := dk_seg dksX4_readLine_5 22 rfl rfl
theorem dX4_readLine_0 : decode cX4_readLine 0 = .ok (.aload_n 0, 1) := dk_42 (dk_at dksX4_readLine_0 0 rfl rfl)
theorem dX4_readLine_1 : decode cX4_readLine 1 = .ok (.ldc2_w 123, 3) := dk_20 0 123 (dk_at dksX4_readLine_0 1 rfl rfl)
theorem dX4_readLine_4 : decode cX4_readLine 4 = .ok (.invokevirtual 125, 3) := dk_182 0 125 (dk_at dksX4_readLine_0 4 rfl rfl)
theorem dX4_readLine_7 : decode cX4_readLine 7 = .ok (.ifCond .eq 10, 3) := dk_153 0 10 (dk_at dksX4_readLine_0 7 rfl rfl)
theorem dX4_readLine_10 : decode cX4_readLine 10 = .ok (.aload_n 0, 1) := dk_42 (dk_at dksX4_readLine_0 10 rfl rfl)
theorem dX4_readLine_11 : decode cX4_readLine 11 = .ok (.invokevirtual 129, 3) := dk_182 0 129 (dk_at dksX4_readLine_0 11 rfl rfl)
theorem dX4_readLine_14 : decode cX4_readLine 14 = .ok (.goto 81, 3) := dk_167 0 81 (dk_at dksX4_readLine_0 14 rfl rfl)
theorem dX4_readLine_17 : decode cX4_readLine 17 = .ok (.aload_n 0, 1) := dk_42 (dk_at dksX4_readLine_0 17 rfl rfl)
theorem dX4_readLine_18 : decode cX4_readLine 18 = .ok (.ldc2_w 132, 3) := dk_20 0 132 (dk_at dksX4_readLine_0 18 rfl rfl)
theorem dX4_readLine_21 : decode cX4_readLine 21 = .ok (.invokevirtual 125, 3) := dk_182 0 125 (dk_at dksX4_readLine_0 21 rfl rfl)
theorem dX4_readLine_24 : decode cX4_readLine 24 = .ok (.ifCond .eq 10, 3) := dk_153 0 10 (dk_at dksX4_readLine_1 0 rfl rfl)
theorem dX4_readLine_27 : decode cX4_readLine 27 = .ok (.aload_n 0, 1) := dk_42 (dk_at dksX4_readLine_1 3 rfl rfl)
theorem dX4_readLine_28 : decode cX4_readLine 28 = .ok (.invokevirtual 134, 3) := dk_182 0 134 (dk_at dksX4_readLine_1 4 rfl rfl)
theorem dX4_readLine_31 : decode cX4_readLine 31 = .ok (.goto 64, 3) := dk_167 0 64 (dk_at dksX4_readLine_1 7 rfl rfl)
theorem dX4_readLine_34 : decode cX4_readLine 34 = .ok (.aload_n 0, 1) := dk_42 (dk_at dksX4_readLine_1 10 rfl rfl)
theorem dX4_readLine_35 : decode cX4_readLine 35 = .ok (.ldc2_w 137, 3) := dk_20 0 137 (dk_at dksX4_readLine_1 11 rfl rfl)
theorem dX4_readLine_38 : decode cX4_readLine 38 = .ok (.invokevirtual 125, 3) := dk_182 0 125 (dk_at dksX4_readLine_1 14 rfl rfl)
theorem dX4_readLine_41 : decode cX4_readLine 41 = .ok (.ifCond .eq 10, 3) := dk_153 0 10 (dk_at dksX4_readLine_1 17 rfl rfl)
theorem dX4_readLine_44 : decode cX4_readLine 44 = .ok (.aload_n 0, 1) := dk_42 (dk_at dksX4_readLine_1 20 rfl rfl)
theorem dX4_readLine_45 : decode cX4_readLine 45 = .ok (.invokevirtual 139, 3) := dk_182 0 139 (dk_at dksX4_readLine_1 21 rfl rfl)
theorem dX4_readLine_48 : decode cX4_readLine 48 = .ok (.goto 47, 3) := dk_167 0 47 (dk_at dksX4_readLine_2 0 rfl rfl)
theorem dX4_readLine_51 : decode cX4_readLine 51 = .ok (.aload_n 0, 1) := dk_42 (dk_at dksX4_readLine_2 3 rfl rfl)
theorem dX4_readLine_52 : decode cX4_readLine 52 = .ok (.ldc2_w 142, 3) := dk_20 0 142 (dk_at dksX4_readLine_2 4 rfl rfl)
theorem dX4_readLine_55 : decode cX4_readLine 55 = .ok (.invokevirtual 125, 3) := dk_182 0 125 (dk_at dksX4_readLine_2 7 rfl rfl)
theorem dX4_readLine_58 : decode cX4_readLine 58 = .ok (.ifCond .eq 11, 3) := dk_153 0 11 (dk_at dksX4_readLine_2 10 rfl rfl)
theorem dX4_readLine_61 : decode cX4_readLine 61 = .ok (.aload_n 0, 1) := dk_42 (dk_at dksX4_readLine_2 13 rfl rfl)
theorem dX4_readLine_62 : decode cX4_readLine 62 = .ok (.iconst 0, 1) := dk_3 (dk_at dksX4_readLine_2 14 rfl rfl)
theorem dX4_readLine_63 : decode cX4_readLine 63 = .ok (.invokevirtual 144, 3) := dk_182 0 144 (dk_at dksX4_readLine_2 15 rfl rfl)
theorem dX4_readLine_66 : decode cX4_readLine 66 = .ok (.goto 29, 3) := dk_167 0 29 (dk_at dksX4_readLine_2 18 rfl rfl)
theorem dX4_readLine_69 : decode cX4_readLine 69 = .ok (.aload_n 0, 1) := dk_42 (dk_at dksX4_readLine_2 21 rfl rfl)
theorem dX4_readLine_70 : decode cX4_readLine 70 = .ok (.ldc2_w 147, 3) := dk_20 0 147 (dk_at dksX4_readLine_3 0 rfl rfl)
theorem dX4_readLine_73 : decode cX4_readLine 73 = .ok (.invokevirtual 125, 3) := dk_182 0 125 (dk_at dksX4_readLine_3 3 rfl rfl)
theorem dX4_readLine_76 : decode cX4_readLine 76 = .ok (.ifCond .eq 11, 3) := dk_153 0 11 (dk_at dksX4_readLine_3 6 rfl rfl)
theorem dX4_readLine_79 : decode cX4_readLine 79 = .ok (.aload_n 0, 1) := dk_42 (dk_at dksX4_readLine_3 9 rfl rfl)
theorem dX4_readLine_80 : decode cX4_readLine 80 = .ok (.iconst 1, 1) := dk_4 (dk_at dksX4_readLine_3 10 rfl rfl)
theorem dX4_readLine_81 : decode cX4_readLine 81 = .ok (.invokevirtual 144, 3) := dk_182 0 144 (dk_at dksX4_readLine_3 11 rfl rfl)
theorem dX4_readLine_84 : decode cX4_readLine 84 = .ok (.goto 11, 3) := dk_167 0 11 (dk_at dksX4_readLine_3 14 rfl rfl)
theorem dX4_readLine_87 : decode cX4_readLine 87 = .ok (.aload_n 0, 1) := dk_42 (dk_at dksX4_readLine_3 17 rfl rfl)
theorem dX4_readLine_88 : decode cX4_readLine 88 = .ok (.aload_n 0, 1) := dk_42 (dk_at dksX4_readLine_3 18 rfl rfl)
theorem dX4_readLine_89 : decode cX4_readLine 89 = .ok (.getfield 88, 3) := dk_180 0 88 (dk_at dksX4_readLine_3 19 rfl rfl)
theorem dX4_readLine_92 : decode cX4_readLine 92 = .ok (.invokevirtual 101, 3) := dk_182 0 101 (dk_at dksX4_readLine_4 0 rfl rfl)
theorem dX4_readLine_95 : decode cX4_readLine 95 = .ok (.aload_n 0, 1) := dk_42 (dk_at dksX4_readLine_4 3 rfl rfl)
theorem dX4_readLine_96 : decode cX4_readLine 96 = .ok (.getfield 82, 3) := dk_180 0 82 (dk_at dksX4_readLine_4 4 rfl rfl)
theorem dX4_readLine_99 : decode cX4_readLine 99 = .ok (.iconst (-1), 1) := dk_2 (dk_at dksX4_readLine_4 7 rfl rfl)
theorem dX4_readLine_100 : decode cX4_readLine 100 = .ok (.if_icmp .ne 28, 3) := dk_160 0 28 (dk_at dksX4_readLine_4 8 rfl rfl)
theorem dX4_readLine_103 : decode cX4_readLine 103 = .ok (.aload_n 0, 1) := dk_42 (dk_at dksX4_readLine_4 11 rfl rfl)
theorem dX4_readLine_104 : decode cX4_readLine 104 = .ok (.getfield 105, 3) := dk_180 0 105 (dk_at dksX4_readLine_4 12 rfl rfl)
theorem dX4_readLine_107 : decode cX4_readLine 107 = .ok (.iconst 3, 1) := dk_6 (dk_at dksX4_readLine_4 15 rfl rfl)
theorem dX4_readLine_108 : decode cX4_readLine 108 = .ok (.if_icmp .ne 12, 3) := dk_160 0 12 (dk_at dksX4_readLine_4 16 rfl rfl)
theorem dX4_readLine_111 : decode cX4_readLine 111 = .ok (.aload_n 0, 1) := dk_42 (dk_at dksX4_readLine_4 19 rfl rfl)
theorem dX4_readLine_112 : decode cX4_readLine 112 = .ok (.getfield 91, 3) := dk_180 0 91 (dk_at dksX4_readLine_4 20 rfl rfl)
theorem dX4_readLine_115 : decode cX4_readLine 115 = .ok (.bipush 59, 2) := dk_16 59 (dk_at dksX4_readLine_5 0 rfl rfl)
theorem dX4_readLine_117 : decode cX4_readLine 117 = .ok (.if_icmp .eq 11, 3) := dk_159 0 11 (dk_at dksX4_readLine_5 2 rfl rfl)
theorem dX4_readLine_120 : decode cX4_readLine 120 = .ok (.aload_n 0, 1) := dk_42 (dk_at dksX4_readLine_5 5 rfl rfl)
theorem dX4_readLine_121 : decode cX4_readLine 121 = .ok (.aload_n 0, 1) := dk_42 (dk_at dksX4_readLine_5 6 rfl rfl)
theorem dX4_readLine_122 : decode cX4_readLine 122 = .ok (.getfield 88, 3) := dk_180 0 88 (dk_at dksX4_readLine_5 7 rfl rfl)
theorem dX4_readLine_125 : decode cX4_readLine 125 = .ok (.invokevirtual 101, 3) := dk_182 0 101 (dk_at dksX4_readLine_5 10 rfl rfl)
theorem dX4_readLine_128 : decode cX4_readLine 128 = .ok (.aload_n 0, 1) := dk_42 (dk_at dksX4_readLine_5 13 rfl rfl)
theorem dX4_readLine_129 : decode cX4_readLine 129 = .ok (.getfield 82, 3) := dk_180 0 82 (dk_at dksX4_readLine_5 14 rfl rfl)
theorem dX4_readLine_132 : decode cX4_readLine 132 = .ok (.iconst (-1), 1) := dk_2 (dk_at dksX4_readLine_5 17 rfl rfl)
theorem dX4_readLine_133 : decode cX4_readLine 133 = .ok (.if_icmp .ne 7, 3) := dk_160 0 7 (dk_at dksX4_readLine_5 18 rfl rfl)
theorem dX4_readLine_136 : decode cX4_readLine 136 = .ok (.aload_n 0, 1) := dk_42 (dk_at dksX4_readLine_5 21 rfl rfl)
theorem dX4_readLine_137 : decode cX4_readLine 137 = .ok (.invokevirtual 113, 3) := dk_182 0 113 (dk_at dksX4_readLine_6 0 rfl rfl)
theorem dX4_readLine_140 : decode cX4_readLine 140 = .ok (.return_, 1) := dk_177 (dk_at dksX4_readLine_6 3 rfl rfl)
def dkwX4_isWord_4 : List UInt8 := [3, 172]
abbrev dktX4_isWord_4 : List UInt8 := dkwX4_isWord_4 ++ []
def dkwX4_isWord_3 : List UInt8 := [42, 180, 0, 85, 42, 180, 0, 88, 100, 16, 8, 162, 0, 13, 33, 31, 148, 154, 0, 7, 4, 167, 0, 4]
abbrev dktX4_isWord_3 : List UInt8 := dkwX4_isWord_3 ++ dktX4_isWord_4
def dkwX4_isWord_2 : List UInt8 := [21, 5, 46, 133, 97, 20, 0, 111, 101, 66, 132, 5, 1, 167, 255, 205, 42, 180, 0, 105, 4, 160, 0, 27]
abbrev dktX4_isWord_2 : List UInt8 := dkwX4_isWord_2 ++ dktX4_isWord_3
def dkwX4_isWord_1 : List UInt8 := [162, 0, 40, 21, 5, 42, 180, 0, 88, 16, 8, 96, 162, 0, 28, 20, 0, 109, 33, 105, 42, 180, 0, 19]
abbrev dktX4_isWord_1 : List UInt8 := dkwX4_isWord_1 ++ dktX4_isWord_2
def dkwX4_isWord_0 : List UInt8 := [9, 66, 42, 180, 0, 88, 54, 5, 42, 180, 0, 105, 4, 160, 0, 49, 21, 5, 42, 180, 0, 85]
abbrev dktX4_isWord_0 : List UInt8 := dkwX4_isWord_0 ++ dktX4_isWord_1
theorem dksX4_isWord_0 : cX4_isWord.data.toList.drop 0 = dktX4_isWord_0 := by decide +kernel
theorem dksX4_isWord_1 : cX4_isWord.data.toList.drop 22 = dktX4_isWord_1 := dk_seg dksX4_isWord_0 22 rfl rfl
theorem dksX4_isWord_2 : cX4_isWord.data.toList.drop 46 = dktX4_isWord_2 := dk_seg dksX4_isWord_1 24 rfl rfl
theorem dksX4_isWord_3 : cX4_isWord.data.toList.drop 70 = dktX4_isWord_3 := dk_seg dksX4_isWord_2 24 rfl rfl
theorem dksX4_isWord_4 : cX4_isWord.data.toList.drop 94 = dktX4_isWord_4 := dk_seg dksX4_isWord_3 24 rfl rfl
theorem dX4_isWord_0 : decode cX4_isWord 0 = .ok (.lconst 0, 1) := dk_9 (dk_at dksX4_isWord_0 0 rfl rfl)
theorem dX4_isWord_1 : decode cX4_isWord 1 = .ok (.lstore_n 3, 1) := dk_66 (dk_at dksX4_isWord_0 1 rfl rfl)
theorem dX4_isWord_2 : decode cX4_isWord 2 = .ok (.aload_n 0, 1) := dk_42 (dk_at dksX4_isWord_0 2 rfl rfl)
theorem dX4_isWord_3 : decode cX4_isWord 3 = .ok (.getfield 88, 3) := dk_180 0 88 (dk_at dksX4_isWord_0 3 rfl rfl)
theorem dX4_isWord_6 : decode cX4_isWord 6 = .ok (.istore 5, 2) := dk_54 5 (dk_at dksX4_isWord_0 6 rfl rfl)
theorem dX4_isWord_8 : decode cX4_isWord 8 = .ok (.aload_n 0, 1) := dk_42 (dk_at dksX4_isWord_0 8 rfl rfl)
theorem dX4_isWord_9 : decode cX4_isWord 9 = .ok (.getfield 105, 3) := dk_180 0 105 (dk_at dksX4_isWord_0 9 rfl rfl)
theorem dX4_isWord_12 : decode cX4_isWord 12 = .ok (.iconst 1, 1) := dk_4 (dk_at dksX4_isWord_0 12 rfl rfl)
theorem dX4_isWord_13 : decode cX4_isWord 13 = .ok (.if_icmp .ne 49, 3) := dk_160 0 49 (dk_at dksX4_isWord_0 13 rfl rfl)
theorem dX4_isWord_16 : decode cX4_isWord 16 = .ok (.iload 5, 2) := dk_21 5 (dk_at dksX4_isWord_0 16 rfl rfl)
theorem dX4_isWord_18 : decode cX4_isWord 18 = .ok (.aload_n 0, 1) := dk_42 (dk_at dksX4_isWord_0 18 rfl rfl)
theorem dX4_isWord_19 : decode cX4_isWord 19 = .ok (.getfield 85, 3) := dk_180 0 85 (dk_at dksX4_isWord_0 19 rfl rfl)
theorem dX4_isWord_22 : decode cX4_isWord 22 = .ok (.if_icmp .ge 40, 3) := dk_162 0 40 (dk_at dksX4_isWord_1 0 rfl rfl)
theorem dX4_isWord_25 : decode cX4_isWord 25 = .ok (.iload 5, 2) := dk_21 5 (dk_at dksX4_isWord_1 3 rfl rfl)
theorem dX4_isWord_27 : decode cX4_isWord 27 = .ok (.aload_n 0, 1) := dk_42 (dk_at dksX4_isWord_1 5 rfl rfl)
theorem dX4_isWord_28 : decode cX4_isWord 28 = .ok (.getfield 88, 3) := dk_180 0 88 (dk_at dksX4_isWord_1 6 rfl rfl)
theorem dX4_isWord_31 : decode cX4_isWord 31 = .ok (.bipush 8, 2) := dk_16 8 (dk_at dksX4_isWord_1 9 rfl rfl)
theorem dX4_isWord_33 : decode cX4_isWord 33 = .ok (.iadd, 1) := dk_96 (dk_at dksX4_isWord_1 11 rfl rfl)
theorem dX4_isWord_34 : decode cX4_isWord 34 = .ok (.if_icmp .ge 28, 3) := dk_162 0 28 (dk_at dksX4_isWord_1 12 rfl rfl)
theorem dX4_isWord_37 : decode cX4_isWord 37 = .ok (.ldc2_w 109, 3) := dk_20 0 109 (dk_at dksX4_isWord_1 15 rfl rfl)
theorem dX4_isWord_40 : decode cX4_isWord 40 = .ok (.lload_n 3, 1) := dk_33 (dk_at dksX4_isWord_1 18 rfl rfl)
theorem dX4_isWord_41 : decode cX4_isWord 41 = .ok (.lmul, 1) := dk_105 (dk_at dksX4_isWord_1 19 rfl rfl)
theorem dX4_isWord_42 : decode cX4_isWord 42 = .ok (.aload_n 0, 1) := dk_42 (dk_at dksX4_isWord_1 20 rfl rfl)
theorem dX4_isWord_43 : decode cX4_isWord 43 = .ok (.getfield 19, 3) := dk_180 0 19 (dk_at dksX4_isWord_1 21 rfl rfl)
theorem dX4_isWord_46 : decode cX4_isWord 46 = .ok (.iload 5, 2) := dk_21 5 (dk_at dksX4_isWord_2 0 rfl rfl)
theorem dX4_isWord_48 : decode cX4_isWord 48 = .ok (.iaload, 1) := dk_46 (dk_at dksX4_isWord_2 2 rfl rfl)
theorem dX4_isWord_49 : decode cX4_isWord 49 = .ok (.i2l, 1) := dk_133 (dk_at dksX4_isWord_2 3 rfl rfl)
theorem dX4_isWord_50 : decode cX4_isWord 50 = .ok (.ladd, 1) := dk_97 (dk_at dksX4_isWord_2 4 rfl rfl)
theorem dX4_isWord_51 : decode cX4_isWord 51 = .ok (.ldc2_w 111, 3) := dk_20 0 111 (dk_at dksX4_isWord_2 5 rfl rfl)
theorem dX4_isWord_54 : decode cX4_isWord 54 = .ok (.lsub, 1) := dk_101 (dk_at dksX4_isWord_2 8 rfl rfl)
theorem dX4_isWord_55 : decode cX4_isWord 55 = .ok (.lstore_n 3, 1) := dk_66 (dk_at dksX4_isWord_2 9 rfl rfl)
theorem dX4_isWord_56 : decode cX4_isWord 56 = .ok (.iinc 5 1, 3) := dk_132 5 1 (dk_at dksX4_isWord_2 10 rfl rfl)
theorem dX4_isWord_59 : decode cX4_isWord 59 = .ok (.goto (-51), 3) := dk_167 255 205 (dk_at dksX4_isWord_2 13 rfl rfl)
theorem dX4_isWord_62 : decode cX4_isWord 62 = .ok (.aload_n 0, 1) := dk_42 (dk_at dksX4_isWord_2 16 rfl rfl)
theorem dX4_isWord_63 : decode cX4_isWord 63 = .ok (.getfield 105, 3) := dk_180 0 105 (dk_at dksX4_isWord_2 17 rfl rfl)
theorem dX4_isWord_66 : decode cX4_isWord 66 = .ok (.iconst 1, 1) := dk_4 (dk_at dksX4_isWord_2 20 rfl rfl)
theorem dX4_isWord_67 : decode cX4_isWord 67 = .ok (.if_icmp .ne 27, 3) := dk_160 0 27 (dk_at dksX4_isWord_2 21 rfl rfl)
theorem dX4_isWord_70 : decode cX4_isWord 70 = .ok (.aload_n 0, 1) := dk_42 (dk_at dksX4_isWord_3 0 rfl rfl)
theorem dX4_isWord_71 : decode cX4_isWord 71 = .ok (.getfield 85, 3) := dk_180 0 85 (dk_at dksX4_isWord_3 1 rfl rfl)
theorem dX4_isWord_74 : decode cX4_isWord 74 = .ok (.aload_n 0, 1) := dk_42 (dk_at dksX4_isWord_3 4 rfl rfl)
theorem dX4_isWord_75 : decode cX4_isWord 75 = .ok (.getfield 88, 3) := dk_180 0 88 (dk_at dksX4_isWord_3 5 rfl rfl)
theorem dX4_isWord_78 : decode cX4_isWord 78 = .ok (.isub, 1) := dk_100 (dk_at dksX4_isWord_3 8 rfl rfl)
theorem dX4_isWord_79 : decode cX4_isWord 79 = .ok (.bipush 8, 2) := dk_16 8 (dk_at dksX4_isWord_3 9 rfl rfl)
theorem dX4_isWord_81 : decode cX4_isWord 81 = .ok (.if_icmp .ge 13, 3) := dk_162 0 13 (dk_at dksX4_isWord_3 11 rfl rfl)
theorem dX4_isWord_84 : decode cX4_isWord 84 = .ok (.lload_n 3, 1) := dk_33 (dk_at dksX4_isWord_3 14 rfl rfl)
theorem dX4_isWord_85 : decode cX4_isWord 85 = .ok (.lload_n 1, 1) := dk_31 (dk_at dksX4_isWord_3 15 rfl rfl)
theorem dX4_isWord_86 : decode cX4_isWord 86 = .ok (.lcmp, 1) := dk_148 (dk_at dksX4_isWord_3 16 rfl rfl)
theorem dX4_isWord_87 : decode cX4_isWord 87 = .ok (.ifCond .ne 7, 3) := dk_154 0 7 (dk_at dksX4_isWord_3 17 rfl rfl)
theorem dX4_isWord_90 : decode cX4_isWord 90 = .ok (.iconst 1, 1) := dk_4 (dk_at dksX4_isWord_3 20 rfl rfl)
theorem dX4_isWord_91 : decode cX4_isWord 91 = .ok (.goto 4, 3) := dk_167 0 4 (dk_at dksX4_isWord_3 21 rfl rfl)
theorem dX4_isWord_94 : decode cX4_isWord 94 = .ok (.iconst 0, 1) := dk_3 (dk_at dksX4_isWord_4 0 rfl rfl)
theorem dX4_isWord_95 : decode cX4_isWord 95 = .ok (.ireturn, 1) := dk_172 (dk_at dksX4_isWord_4 1 rfl rfl)
def dkwX4_readAsset_3 : List UInt8 := [46, 96, 28, 79, 42, 180, 0, 7, 3, 92, 46, 4, 96, 79, 177]
abbrev dktX4_readAsset_3 : List UInt8 := dkwX4_readAsset_3 ++ []
def dkwX4_readAsset_2 : List UInt8 := [180, 0, 7, 5, 42, 180, 0, 7, 3, 46, 96, 27, 79, 42, 180, 0, 7, 16, 6, 42, 180, 0, 7, 3]
abbrev dktX4_readAsset_2 : List UInt8 := dkwX4_readAsset_2 ++ dktX4_readAsset_3
def dkwX4_readAsset_1 : List UInt8 := [17, 0, 200, 182, 0, 116, 60, 42, 3, 16, 9, 182, 0, 116, 61, 42, 180, 0, 82, 2, 160, 0, 42, 42]
abbrev dktX4_readAsset_1 : List UInt8 := dkwX4_readAsset_1 ++ dktX4_readAsset_2
def dkwX4_readAsset_0 : List UInt8 := [42, 180, 0, 7, 3, 46, 7, 160, 0, 11, 42, 42, 180, 0, 88, 182, 0, 101, 42, 182, 0, 113, 42, 4]
abbrev dktX4_readAsset_0 : List UInt8 := dkwX4_readAsset_0 ++ dktX4_readAsset_1
theorem dksX4_readAsset_0 : cX4_readAsset.data.toList.drop 0 = dktX4_readAsset_0 := by decide +kernel
theorem dksX4_readAsset_1 : cX4_readAsset.data.toList.drop 24 = dktX4_readAsset_1 := dk_seg dksX4_readAsset_0 24 rfl rfl
theorem dksX4_readAsset_2 : cX4_readAsset.data.toList.drop 48 = dktX4_readAsset_2 := dk_seg dksX4_readAsset_1 24 rfl rfl
theorem dksX4_readAsset_3 : cX4_readAsset.data.toList.drop 72 = dktX4_readAsset_3 := dk_seg dksX4_readAsset_2 24 rfl rfl
theorem dX4_readAsset_0 : decode cX4_readAsset 0 = .ok (.aload_n 0, 1) := dk_42 (dk_at dksX4_readAsset_0 0 rfl rfl)
theorem dX4_readAsset_1 : decode cX4_readAsset 1 = .ok (.getfield 7, 3) := dk_180 0 7 (dk_at dksX4_readAsset_0 1 rfl rfl)
theorem dX4_readAsset_4 : decode cX4_readAsset 4 = .ok (.iconst 0, 1) := dk_3 (dk_at dksX4_readAsset_0 4 rfl rfl)
theorem dX4_readAsset_5 : decode cX4_readAsset 5 = .ok (.iaload, 1) := dk_46 (dk_at dksX4_readAsset_0 5 rfl rfl)
theorem dX4_readAsset_6 : decode cX4_readAsset 6 = .ok (.iconst 4, 1) := dk_7 (dk_at dksX4_readAsset_0 6 rfl rfl)
theorem dX4_readAsset_7 : decode cX4_readAsset 7 = .ok (.if_icmp .ne 11, 3) := dk_160 0 11 (dk_at dksX4_readAsset_0 7 rfl rfl)
theorem dX4_readAsset_10 : decode cX4_readAsset 10 = .ok (.aload_n 0, 1) := dk_42 (dk_at dksX4_readAsset_0 10 rfl rfl)
theorem dX4_readAsset_11 : decode cX4_readAsset 11 = .ok (.aload_n 0, 1) := dk_42 (dk_at dksX4_readAsset_0 11 rfl rfl)
theorem dX4_readAsset_12 : decode cX4_readAsset 12 = .ok (.getfield 88, 3) := dk_180 0 88 (dk_at dksX4_readAsset_0 12 rfl rfl)
theorem dX4_readAsset_15 : decode cX4_readAsset 15 = .ok (.invokevirtual 101, 3) := dk_182 0 101 (dk_at dksX4_readAsset_0 15 rfl rfl)
theorem dX4_readAsset_18 : decode cX4_readAsset 18 = .ok (.aload_n 0, 1) := dk_42 (dk_at dksX4_readAsset_0 18 rfl rfl)
theorem dX4_readAsset_19 : decode cX4_readAsset 19 = .ok (.invokevirtual 113, 3) := dk_182 0 113 (dk_at dksX4_readAsset_0 19 rfl rfl)
theorem dX4_readAsset_22 : decode cX4_readAsset 22 = .ok (.aload_n 0, 1) := dk_42 (dk_at dksX4_readAsset_0 22 rfl rfl)
theorem dX4_readAsset_23 : decode cX4_readAsset 23 = .ok (.iconst 1, 1) := dk_4 (dk_at dksX4_readAsset_0 23 rfl rfl)
theorem dX4_readAsset_24 : decode cX4_readAsset 24 = .ok (.sipush 200, 3) := dk_17 0 200 (dk_at dksX4_readAsset_1 0 rfl rfl)
theorem dX4_readAsset_27 : decode cX4_readAsset 27 = .ok (.invokevirtual 116, 3) := dk_182 0 116 (dk_at dksX4_readAsset_1 3 rfl rfl)
theorem dX4_readAsset_30 : decode cX4_readAsset 30 = .ok (.istore_n 1, 1) := dk_60 (dk_at dksX4_readAsset_1 6 rfl rfl)
theorem dX4_readAsset_31 : decode cX4_readAsset 31 = .ok (.aload_n 0, 1) := dk_42 (dk_at dksX4_readAsset_1 7 rfl rfl)
theorem dX4_readAsset_32 : decode cX4_readAsset 32 = .ok (.iconst 0, 1) := dk_3 (dk_at dksX4_readAsset_1 8 rfl rfl)
theorem dX4_readAsset_33 : decode cX4_readAsset 33 = .ok (.bipush 9, 2) := dk_16 9 (dk_at dksX4_readAsset_1 9 rfl rfl)
theorem dX4_readAsset_35 : decode cX4_readAsset 35 = .ok (.invokevirtual 116, 3) := dk_182 0 116 (dk_at dksX4_readAsset_1 11 rfl rfl)
theorem dX4_readAsset_38 : decode cX4_readAsset 38 = .ok (.istore_n 2, 1) := dk_61 (dk_at dksX4_readAsset_1 14 rfl rfl)
theorem dX4_readAsset_39 : decode cX4_readAsset 39 = .ok (.aload_n 0, 1) := dk_42 (dk_at dksX4_readAsset_1 15 rfl rfl)
theorem dX4_readAsset_40 : decode cX4_readAsset 40 = .ok (.getfield 82, 3) := dk_180 0 82 (dk_at dksX4_readAsset_1 16 rfl rfl)
theorem dX4_readAsset_43 : decode cX4_readAsset 43 = .ok (.iconst (-1), 1) := dk_2 (dk_at dksX4_readAsset_1 19 rfl rfl)
theorem dX4_readAsset_44 : decode cX4_readAsset 44 = .ok (.if_icmp .ne 42, 3) := dk_160 0 42 (dk_at dksX4_readAsset_1 20 rfl rfl)
theorem dX4_readAsset_47 : decode cX4_readAsset 47 = .ok (.aload_n 0, 1) := dk_42 (dk_at dksX4_readAsset_1 23 rfl rfl)
theorem dX4_readAsset_48 : decode cX4_readAsset 48 = .ok (.getfield 7, 3) := dk_180 0 7 (dk_at dksX4_readAsset_2 0 rfl rfl)
theorem dX4_readAsset_51 : decode cX4_readAsset 51 = .ok (.iconst 2, 1) := dk_5 (dk_at dksX4_readAsset_2 3 rfl rfl)
theorem dX4_readAsset_52 : decode cX4_readAsset 52 = .ok (.aload_n 0, 1) := dk_42 (dk_at dksX4_readAsset_2 4 rfl rfl)
theorem dX4_readAsset_53 : decode cX4_readAsset 53 = .ok (.getfield 7, 3) := dk_180 0 7 (dk_at dksX4_readAsset_2 5 rfl rfl)
theorem dX4_readAsset_56 : decode cX4_readAsset 56 = .ok (.iconst 0, 1) := dk_3 (dk_at dksX4_readAsset_2 8 rfl rfl)
theorem dX4_readAsset_57 : decode cX4_readAsset 57 = .ok (.iaload, 1) := dk_46 (dk_at dksX4_readAsset_2 9 rfl rfl)
theorem dX4_readAsset_58 : decode cX4_readAsset 58 = .ok (.iadd, 1) := dk_96 (dk_at dksX4_readAsset_2 10 rfl rfl)
theorem dX4_readAsset_59 : decode cX4_readAsset 59 = .ok (.iload_n 1, 1) := dk_27 (dk_at dksX4_readAsset_2 11 rfl rfl)
theorem dX4_readAsset_60 : decode cX4_readAsset 60 = .ok (.iastore, 1) := dk_79 (dk_at dksX4_readAsset_2 12 rfl rfl)
theorem dX4_readAsset_61 : decode cX4_readAsset 61 = .ok (.aload_n 0, 1) := dk_42 (dk_at dksX4_readAsset_2 13 rfl rfl)
theorem dX4_readAsset_62 : decode cX4_readAsset 62 = .ok (.getfield 7, 3) := dk_180 0 7 (dk_at dksX4_readAsset_2 14 rfl rfl)
theorem dX4_readAsset_65 : decode cX4_readAsset 65 = .ok (.bipush 6, 2) := dk_16 6 (dk_at dksX4_readAsset_2 17 rfl rfl)
theorem dX4_readAsset_67 : decode cX4_readAsset 67 = .ok (.aload_n 0, 1) := dk_42 (dk_at dksX4_readAsset_2 19 rfl rfl)
theorem dX4_readAsset_68 : decode cX4_readAsset 68 = .ok (.getfield 7, 3) := dk_180 0 7 (dk_at dksX4_readAsset_2 20 rfl rfl)
theorem dX4_readAsset_71 : decode cX4_readAsset 71 = .ok (.iconst 0, 1) := dk_3 (dk_at dksX4_readAsset_2 23 rfl rfl)
theorem dX4_readAsset_72 : decode cX4_readAsset 72 = .ok (.iaload, 1) := dk_46 (dk_at dksX4_readAsset_3 0 rfl rfl)
theorem dX4_readAsset_73 : decode cX4_readAsset 73 = .ok (.iadd, 1) := dk_96 (dk_at dksX4_readAsset_3 1 rfl rfl)
theorem dX4_readAsset_74 : decode cX4_readAsset 74 = .ok (.iload_n 2, 1) := dk_28 (dk_at dksX4_readAsset_3 2 rfl rfl)
theorem dX4_readAsset_75 : decode cX4_readAsset 75 = .ok (.iastore, 1) := dk_79 (dk_at dksX4_readAsset_3 3 rfl rfl)
theorem dX4_readAsset_76 : decode cX4_readAsset 76 = .ok (.aload_n 0, 1) := dk_42 (dk_at dksX4_readAsset_3 4 rfl rfl)
theorem dX4_readAsset_77 : decode cX4_readAsset 77 = .ok (.getfield 7, 3) := dk_180 0 7 (dk_at dksX4_readAsset_3 5 rfl rfl)
theorem dX4_readAsset_80 : decode cX4_readAsset 80 = .ok (.iconst 0, 1) := dk_3 (dk_at dksX4_readAsset_3 8 rfl rfl)
theorem dX4_readAsset_81 : decode cX4_readAsset 81 = .ok (.dup2, 1) := dk_92 (dk_at dksX4_readAsset_3 9 rfl rfl)
theorem dX4_readAsset_82 : decode cX4_readAsset 82 = .ok (.iaload, 1) := dk_46 (dk_at dksX4_readAsset_3 10 rfl rfl)
theorem dX4_readAsset_83 : decode cX4_readAsset 83 = .ok (.iconst 1, 1) := dk_4 (dk_at dksX4_readAsset_3 11 rfl rfl)
theorem dX4_readAsset_84 : decode cX4_readAsset 84 = .ok (.iadd, 1) := dk_96 (dk_at dksX4_readAsset_3 12 rfl rfl)
theorem dX4_readAsset_85 : decode cX4_readAsset 85 = .ok (.iastore, 1) := dk_79 (dk_at dksX4_readAsset_3 13 rfl rfl)
theorem dX4_readAsset_86 : decode cX4_readAsset 86 = .ok (.return_, 1) := dk_177 (dk_at dksX4_readAsset_3 14 rfl rfl)
def dkwX4_number_2 : List UInt8 := [42, 180, 0, 91, 62, 42, 182, 0, 113, 29, 172]
abbrev dktX4_number_2 : List UInt8 := dkwX4_number_2 ++ []
def dkwX4_number_1 : List UInt8 := [184, 0, 68, 154, 0, 11, 42, 42, 180, 0, 88, 182, 0, 101, 42, 180, 0, 82, 2, 159, 0, 5, 3, 172]
abbrev dktX4_number_1 : List UInt8 := dkwX4_number_1 ++ dktX4_number_2
def dkwX4_number_0 : List UInt8 := [42, 180, 0, 82, 2, 160, 0, 31, 42, 180, 0, 105, 5, 160, 0, 15, 42, 180, 0, 91, 27, 28]
abbrev dktX4_number_0 : List UInt8 := dkwX4_number_0 ++ dktX4_number_1
theorem dksX4_number_0 : cX4_number.data.toList.drop 0 = dktX4_number_0 := by decide +kernel
theorem dksX4_number_1 : cX4_number.data.toList.drop 22 = dktX4_number_1 := dk_seg dksX4_number_0 22 rfl rfl
theorem dksX4_number_2 : cX4_number.data.toList.drop 46 = dktX4_number_2 := dk_seg dksX4_number_1 24 rfl rfl
theorem dX4_number_0 : decode cX4_number 0 = .ok (.aload_n 0, 1) := dk_42 (dk_at dksX4_number_0 0 rfl rfl)
theorem dX4_number_1 : decode cX4_number 1 = .ok (.getfield 82, 3) := dk_180 0 82 (dk_at dksX4_number_0 1 rfl rfl)
theorem dX4_number_4 : decode cX4_number 4 = .ok (.iconst (-1), 1) := dk_2 (dk_at dksX4_number_0 4 rfl rfl)
theorem dX4_number_5 : decode cX4_number 5 = .ok (.if_icmp .ne 31, 3) := dk_160 0 31 (dk_at dksX4_number_0 5 rfl rfl)
theorem dX4_number_8 : decode cX4_number 8 = .ok (.aload_n 0, 1) := dk_42 (dk_at dksX4_number_0 8 rfl rfl)
theorem dX4_number_9 : decode cX4_number 9 = .ok (.getfield 105, 3) := dk_180 0 105 (dk_at dksX4_number_0 9 rfl rfl)
theorem dX4_number_12 : decode cX4_number 12 = .ok (.iconst 2, 1) := dk_5 (dk_at dksX4_number_0 12 rfl rfl)
theorem dX4_number_13 : decode cX4_number 13 = .ok (.if_icmp .ne 15, 3) := dk_160 0 15 (dk_at dksX4_number_0 13 rfl rfl)
theorem dX4_number_16 : decode cX4_number 16 = .ok (.aload_n 0, 1) := dk_42 (dk_at dksX4_number_0 16 rfl rfl)
theorem dX4_number_17 : decode cX4_number 17 = .ok (.getfield 91, 3) := dk_180 0 91 (dk_at dksX4_number_0 17 rfl rfl)
theorem dX4_number_20 : decode cX4_number 20 = .ok (.iload_n 1, 1) := dk_27 (dk_at dksX4_number_0 20 rfl rfl)
theorem dX4_number_21 : decode cX4_number 21 = .ok (.iload_n 2, 1) := dk_28 (dk_at dksX4_number_0 21 rfl rfl)
theorem dX4_number_22 : decode cX4_number 22 = .ok (.invokestatic 68, 3) := dk_184 0 68 (dk_at dksX4_number_1 0 rfl rfl)
theorem dX4_number_25 : decode cX4_number 25 = .ok (.ifCond .ne 11, 3) := dk_154 0 11 (dk_at dksX4_number_1 3 rfl rfl)
theorem dX4_number_28 : decode cX4_number 28 = .ok (.aload_n 0, 1) := dk_42 (dk_at dksX4_number_1 6 rfl rfl)
theorem dX4_number_29 : decode cX4_number 29 = .ok (.aload_n 0, 1) := dk_42 (dk_at dksX4_number_1 7 rfl rfl)
theorem dX4_number_30 : decode cX4_number 30 = .ok (.getfield 88, 3) := dk_180 0 88 (dk_at dksX4_number_1 8 rfl rfl)
theorem dX4_number_33 : decode cX4_number 33 = .ok (.invokevirtual 101, 3) := dk_182 0 101 (dk_at dksX4_number_1 11 rfl rfl)
theorem dX4_number_36 : decode cX4_number 36 = .ok (.aload_n 0, 1) := dk_42 (dk_at dksX4_number_1 14 rfl rfl)
theorem dX4_number_37 : decode cX4_number 37 = .ok (.getfield 82, 3) := dk_180 0 82 (dk_at dksX4_number_1 15 rfl rfl)
theorem dX4_number_40 : decode cX4_number 40 = .ok (.iconst (-1), 1) := dk_2 (dk_at dksX4_number_1 18 rfl rfl)
theorem dX4_number_41 : decode cX4_number 41 = .ok (.if_icmp .eq 5, 3) := dk_159 0 5 (dk_at dksX4_number_1 19 rfl rfl)
theorem dX4_number_44 : decode cX4_number 44 = .ok (.iconst 0, 1) := dk_3 (dk_at dksX4_number_1 22 rfl rfl)
theorem dX4_number_45 : decode cX4_number 45 = .ok (.ireturn, 1) := dk_172 (dk_at dksX4_number_1 23 rfl rfl)
theorem dX4_number_46 : decode cX4_number 46 = .ok (.aload_n 0, 1) := dk_42 (dk_at dksX4_number_2 0 rfl rfl)
theorem dX4_number_47 : decode cX4_number 47 = .ok (.getfield 91, 3) := dk_180 0 91 (dk_at dksX4_number_2 1 rfl rfl)
theorem dX4_number_50 : decode cX4_number 50 = .ok (.istore_n 3, 1) := dk_62 (dk_at dksX4_number_2 4 rfl rfl)
theorem dX4_number_51 : decode cX4_number 51 = .ok (.aload_n 0, 1) := dk_42 (dk_at dksX4_number_2 5 rfl rfl)
theorem dX4_number_52 : decode cX4_number 52 = .ok (.invokevirtual 113, 3) := dk_182 0 113 (dk_at dksX4_number_2 6 rfl rfl)
theorem dX4_number_55 : decode cX4_number 55 = .ok (.iload_n 3, 1) := dk_29 (dk_at dksX4_number_2 9 rfl rfl)
theorem dX4_number_56 : decode cX4_number 56 = .ok (.ireturn, 1) := dk_172 (dk_at dksX4_number_2 10 rfl rfl)
def dkwX4_readHouse_7 : List UInt8 := [180, 0, 7, 4, 92, 46, 42, 180, 0, 82, 2, 160, 0, 7, 4, 167, 0, 4, 3, 96, 79, 177]
abbrev dktX4_readHouse_7 : List UInt8 := dkwX4_readHouse_7 ++ []
def dkwX4_readHouse_6 : List UInt8 := [16, 40, 7, 27, 104, 96, 28, 96, 42, 3, 16, 60, 182, 0, 116, 79, 132, 2, 1, 167, 255, 198, 42]
abbrev dktX4_readHouse_6 : List UInt8 := dkwX4_readHouse_6 ++ dktX4_readHouse_7
def dkwX4_readHouse_5 : List UInt8 := [28, 42, 180, 0, 7, 3, 46, 160, 0, 12, 42, 42, 180, 0, 88, 182, 0, 101, 177, 42, 180, 0, 7]
abbrev dktX4_readHouse_5 : List UInt8 := dkwX4_readHouse_5 ++ dktX4_readHouse_6
def dkwX4_readHouse_4 : List UInt8 := [132, 2, 1, 167, 255, 191, 3, 61, 42, 180, 0, 82, 2, 160, 0, 56, 42, 180, 0, 105, 5, 160, 0, 48]
abbrev dktX4_readHouse_4 : List UInt8 := dkwX4_readHouse_4 ++ dktX4_readHouse_5
def dkwX4_readHouse_3 : List UInt8 := [160, 0, 8, 16, 99, 167, 0, 15, 28, 7, 160, 0, 7, 4, 167, 0, 6, 17, 39, 15, 182, 0, 116, 79]
abbrev dktX4_readHouse_3 : List UInt8 := dkwX4_readHouse_3 ++ dktX4_readHouse_4
def dkwX4_readHouse_2 : List UInt8 := [180, 0, 7, 16, 10, 8, 27, 104, 96, 28, 96, 42, 28, 6, 160, 0, 7, 4, 167, 0, 4, 3, 28, 6]
abbrev dktX4_readHouse_2 : List UInt8 := dkwX4_readHouse_2 ++ dktX4_readHouse_3
def dkwX4_readHouse_1 : List UInt8 := [180, 0, 7, 4, 46, 60, 3, 61, 28, 8, 162, 0, 66, 42, 180, 0, 82, 2, 160, 0, 58, 42]
abbrev dktX4_readHouse_1 : List UInt8 := dkwX4_readHouse_1 ++ dktX4_readHouse_2
def dkwX4_readHouse_0 : List UInt8 := [42, 180, 0, 7, 4, 46, 16, 6, 160, 0, 11, 42, 42, 180, 0, 88, 182, 0, 101, 42, 182, 0, 113, 42]
abbrev dktX4_readHouse_0 : List UInt8 := dkwX4_readHouse_0 ++ dktX4_readHouse_1
theorem dksX4_readHouse_0 : cX4_readHouse.data.toList.drop 0 = dktX4_readHouse_0 := by decide +kernel
theorem dksX4_readHouse_1 : cX4_readHouse.data.toList.drop 24 = dktX4_readHouse_1 := dk_seg dksX4_readHouse_0 24 rfl rfl
theorem dksX4_readHouse_2 : cX4_readHouse.data.toList.drop 46 = dktX4_readHouse_2 := dk_seg dksX4_readHouse_1 22 rfl rfl
theorem dksX4_readHouse_3 : cX4_readHouse.data.toList.drop 70 = dktX4_readHouse_3 := dk_seg dksX4_readHouse_2 24 rfl rfl
theorem dksX4_readHouse_4 : cX4_readHouse.data.toList.drop 94 = dktX4_readHouse_4 := dk_seg dksX4_readHouse_3 24 rfl rfl
theorem dksX4_readHouse_5 : cX4_readHouse.data.toList.drop 118 = dktX4_readHouse_5 := dk_seg dksX4_readHouse_4 24 rfl rfl
theorem dksX4_readHouse_6 : cX4_readHouse.data.toList.drop 141 = dktX4_readHouse_6 := dk_seg dksX4_readHouse_5 23 rfl rfl
theorem dksX4_readHouse_7 : cX4_readHouse.data.toList.drop 164 = dktX4_readHouse_7 := dk_seg dksX4_readHouse_6 23 rfl rfl
theorem dX4_readHouse_0 : decode cX4_readHouse 0 = .ok (.aload_n 0, 1) := dk_42 (dk_at dksX4_readHouse_0 0 rfl rfl)
theorem dX4_readHouse_1 : decode cX4_readHouse 1 = .ok (.getfield 7, 3) := dk_180 0 7 (dk_at dksX4_readHouse_0 1 rfl rfl)
theorem dX4_readHouse_4 : decode cX4_readHouse 4 = .ok (.iconst 1, 1) := dk_4 (dk_at dksX4_readHouse_0 4 rfl rfl)
theorem dX4_readHouse_5 : decode cX4_readHouse 5 = .ok (.iaload, 1) := dk_46 (dk_at dksX4_readHouse_0 5 rfl rfl)
theorem dX4_readHouse_6 : decode cX4_readHouse 6 = .ok (.bipush 6, 2) := dk_16 6 (dk_at dksX4_readHouse_0 6 rfl rfl)
theorem dX4_readHouse_8 : decode cX4_readHouse 8 = .ok (.if_icmp .ne 11, 3) := dk_160 0 11 (dk_at dksX4_readHouse_0 8 rfl rfl)
theorem dX4_readHouse_11 : decode cX4_readHouse 11 = .ok (.aload_n 0, 1) := dk_42 (dk_at dksX4_readHouse_0 11 rfl rfl)
theorem dX4_readHouse_12 : decode cX4_readHouse 12 = .ok (.aload_n 0, 1) := dk_42 (dk_at dksX4_readHouse_0 12 rfl rfl)
theorem dX4_readHouse_13 : decode cX4_readHouse 13 = .ok (.getfield 88, 3) := dk_180 0 88 (dk_at dksX4_readHouse_0 13 rfl rfl)
theorem dX4_readHouse_16 : decode cX4_readHouse 16 = .ok (.invokevirtual 101, 3) := dk_182 0 101 (dk_at dksX4_readHouse_0 16 rfl rfl)
theorem dX4_readHouse_19 : decode cX4_readHouse 19 = .ok (.aload_n 0, 1) := dk_42 (dk_at dksX4_readHouse_0 19 rfl rfl)
theorem dX4_readHouse_20 : decode cX4_readHouse 20 = .ok (.invokevirtual 113, 3) := dk_182 0 113 (dk_at dksX4_readHouse_0 20 rfl rfl)
theorem dX4_readHouse_23 : decode cX4_readHouse 23 = .ok (.aload_n 0, 1) := dk_42 (dk_at dksX4_readHouse_0 23 rfl rfl)
theorem dX4_readHouse_24 : decode cX4_readHouse 24 = .ok (.getfield 7, 3) := dk_180 0 7 (dk_at dksX4_readHouse_1 0 rfl rfl)
theorem dX4_readHouse_27 : decode cX4_readHouse 27 = .ok (.iconst 1, 1) := dk_4 (dk_at dksX4_readHouse_1 3 rfl rfl)
theorem dX4_readHouse_28 : decode cX4_readHouse 28 = .ok (.iaload, 1) := dk_46 (dk_at dksX4_readHouse_1 4 rfl rfl)
theorem dX4_readHouse_29 : decode cX4_readHouse 29 = .ok (.istore_n 1, 1) := dk_60 (dk_at dksX4_readHouse_1 5 rfl rfl)
theorem dX4_readHouse_30 : decode cX4_readHouse 30 = .ok (.iconst 0, 1) := dk_3 (dk_at dksX4_readHouse_1 6 rfl rfl)
theorem dX4_readHouse_31 : decode cX4_readHouse 31 = .ok (.istore_n 2, 1) := dk_61 (dk_at dksX4_readHouse_1 7 rfl rfl)
theorem dX4_readHouse_32 : decode cX4_readHouse 32 = .ok (.iload_n 2, 1) := dk_28 (dk_at dksX4_readHouse_1 8 rfl rfl)
theorem dX4_readHouse_33 : decode cX4_readHouse 33 = .ok (.iconst 5, 1) := dk_8 (dk_at dksX4_readHouse_1 9 rfl rfl)
theorem dX4_readHouse_34 : decode cX4_readHouse 34 = .ok (.if_icmp .ge 66, 3) := dk_162 0 66 (dk_at dksX4_readHouse_1 10 rfl rfl)
theorem dX4_readHouse_37 : decode cX4_readHouse 37 = .ok (.aload_n 0, 1) := dk_42 (dk_at dksX4_readHouse_1 13 rfl rfl)
theorem dX4_readHouse_38 : decode cX4_readHouse 38 = .ok (.getfield 82, 3) := dk_180 0 82 (dk_at dksX4_readHouse_1 14 rfl rfl)
theorem dX4_readHouse_41 : decode cX4_readHouse 41 = .ok (.iconst (-1), 1) := dk_2 (dk_at dksX4_readHouse_1 17 rfl rfl)
theorem dX4_readHouse_42 : decode cX4_readHouse 42 = .ok (.if_icmp .ne 58, 3) := dk_160 0 58 (dk_at dksX4_readHouse_1 18 rfl rfl)
theorem dX4_readHouse_45 : decode cX4_readHouse 45 = .ok (.aload_n 0, 1) := dk_42 (dk_at dksX4_readHouse_1 21 rfl rfl)
theorem dX4_readHouse_46 : decode cX4_readHouse 46 = .ok (.getfield 7, 3) := dk_180 0 7 (dk_at dksX4_readHouse_2 0 rfl rfl)
theorem dX4_readHouse_49 : decode cX4_readHouse 49 = .ok (.bipush 10, 2) := dk_16 10 (dk_at dksX4_readHouse_2 3 rfl rfl)
theorem dX4_readHouse_51 : decode cX4_readHouse 51 = .ok (.iconst 5, 1) := dk_8 (dk_at dksX4_readHouse_2 5 rfl rfl)
theorem dX4_readHouse_52 : decode cX4_readHouse 52 = .ok (.iload_n 1, 1) := dk_27 (dk_at dksX4_readHouse_2 6 rfl rfl)
theorem dX4_readHouse_53 : decode cX4_readHouse 53 = .ok (.imul, 1) := dk_104 (dk_at dksX4_readHouse_2 7 rfl rfl)
theorem dX4_readHouse_54 : decode cX4_readHouse 54 = .ok (.iadd, 1) := dk_96 (dk_at dksX4_readHouse_2 8 rfl rfl)
theorem dX4_readHouse_55 : decode cX4_readHouse 55 = .ok (.iload_n 2, 1) := dk_28 (dk_at dksX4_readHouse_2 9 rfl rfl)
theorem dX4_readHouse_56 : decode cX4_readHouse 56 = .ok (.iadd, 1) := dk_96 (dk_at dksX4_readHouse_2 10 rfl rfl)
theorem dX4_readHouse_57 : decode cX4_readHouse 57 = .ok (.aload_n 0, 1) := dk_42 (dk_at dksX4_readHouse_2 11 rfl rfl)
theorem dX4_readHouse_58 : decode cX4_readHouse 58 = .ok (.iload_n 2, 1) := dk_28 (dk_at dksX4_readHouse_2 12 rfl rfl)
theorem dX4_readHouse_59 : decode cX4_readHouse 59 = .ok (.iconst 3, 1) := dk_6 (dk_at dksX4_readHouse_2 13 rfl rfl)
theorem dX4_readHouse_60 : decode cX4_readHouse 60 = .ok (.if_icmp .ne 7, 3) := dk_160 0 7 (dk_at dksX4_readHouse_2 14 rfl rfl)
theorem dX4_readHouse_63 : decode cX4_readHouse 63 = .ok (.iconst 1, 1) := dk_4 (dk_at dksX4_readHouse_2 17 rfl rfl)
theorem dX4_readHouse_64 : decode cX4_readHouse 64 = .ok (.goto 4, 3) := dk_167 0 4 (dk_at dksX4_readHouse_2 18 rfl rfl)
theorem dX4_readHouse_67 : decode cX4_readHouse 67 = .ok (.iconst 0, 1) := dk_3 (dk_at dksX4_readHouse_2 21 rfl rfl)
theorem dX4_readHouse_68 : decode cX4_readHouse 68 = .ok (.iload_n 2, 1) := dk_28 (dk_at dksX4_readHouse_2 22 rfl rfl)
theorem dX4_readHouse_69 : decode cX4_readHouse 69 = .ok (.iconst 3, 1) := dk_6 (dk_at dksX4_readHouse_2 23 rfl rfl)
theorem dX4_readHouse_70 : decode cX4_readHouse 70 = .ok (.if_icmp .ne 8, 3) := dk_160 0 8 (dk_at dksX4_readHouse_3 0 rfl rfl)
theorem dX4_readHouse_73 : decode cX4_readHouse 73 = .ok (.bipush 99, 2) := dk_16 99 (dk_at dksX4_readHouse_3 3 rfl rfl)
theorem dX4_readHouse_75 : decode cX4_readHouse 75 = .ok (.goto 15, 3) := dk_167 0 15 (dk_at dksX4_readHouse_3 5 rfl rfl)
theorem dX4_readHouse_78 : decode cX4_readHouse 78 = .ok (.iload_n 2, 1) := dk_28 (dk_at dksX4_readHouse_3 8 rfl rfl)
theorem dX4_readHouse_79 : decode cX4_readHouse 79 = .ok (.iconst 4, 1) := dk_7 (dk_at dksX4_readHouse_3 9 rfl rfl)
theorem dX4_readHouse_80 : decode cX4_readHouse 80 = .ok (.if_icmp .ne 7, 3) := dk_160 0 7 (dk_at dksX4_readHouse_3 10 rfl rfl)
theorem dX4_readHouse_83 : decode cX4_readHouse 83 = .ok (.iconst 1, 1) := dk_4 (dk_at dksX4_readHouse_3 13 rfl rfl)
theorem dX4_readHouse_84 : decode cX4_readHouse 84 = .ok (.goto 6, 3) := dk_167 0 6 (dk_at dksX4_readHouse_3 14 rfl rfl)
theorem dX4_readHouse_87 : decode cX4_readHouse 87 = .ok (.sipush 9999, 3) := dk_17 39 15 (dk_at dksX4_readHouse_3 17 rfl rfl)
theorem dX4_readHouse_90 : decode cX4_readHouse 90 = .ok (.invokevirtual 116, 3) := dk_182 0 116 (dk_at dksX4_readHouse_3 20 rfl rfl)
theorem dX4_readHouse_93 : decode cX4_readHouse 93 = .ok (.iastore, 1) := dk_79 (dk_at dksX4_readHouse_3 23 rfl rfl)
theorem dX4_readHouse_94 : decode cX4_readHouse 94 = .ok (.iinc 2 1, 3) := dk_132 2 1 (dk_at dksX4_readHouse_4 0 rfl rfl)
theorem dX4_readHouse_97 : decode cX4_readHouse 97 = .ok (.goto (-65), 3) := dk_167 255 191 (dk_at dksX4_readHouse_4 3 rfl rfl)
theorem dX4_readHouse_100 : decode cX4_readHouse 100 = .ok (.iconst 0, 1) := dk_3 (dk_at dksX4_readHouse_4 6 rfl rfl)
theorem dX4_readHouse_101 : decode cX4_readHouse 101 = .ok (.istore_n 2, 1) := dk_61 (dk_at dksX4_readHouse_4 7 rfl rfl)
theorem dX4_readHouse_102 : decode cX4_readHouse 102 = .ok (.aload_n 0, 1) := dk_42 (dk_at dksX4_readHouse_4 8 rfl rfl)
theorem dX4_readHouse_103 : decode cX4_readHouse 103 = .ok (.getfield 82, 3) := dk_180 0 82 (dk_at dksX4_readHouse_4 9 rfl rfl)
theorem dX4_readHouse_106 : decode cX4_readHouse 106 = .ok (.iconst (-1), 1) := dk_2 (dk_at dksX4_readHouse_4 12 rfl rfl)
theorem dX4_readHouse_107 : decode cX4_readHouse 107 = .ok (.if_icmp .ne 56, 3) := dk_160 0 56 (dk_at dksX4_readHouse_4 13 rfl rfl)
theorem dX4_readHouse_110 : decode cX4_readHouse 110 = .ok (.aload_n 0, 1) := dk_42 (dk_at dksX4_readHouse_4 16 rfl rfl)
theorem dX4_readHouse_111 : decode cX4_readHouse 111 = .ok (.getfield 105, 3) := dk_180 0 105 (dk_at dksX4_readHouse_4 17 rfl rfl)
theorem dX4_readHouse_114 : decode cX4_readHouse 114 = .ok (.iconst 2, 1) := dk_5 (dk_at dksX4_readHouse_4 20 rfl rfl)
theorem dX4_readHouse_115 : decode cX4_readHouse 115 = .ok (.if_icmp .ne 48, 3) := dk_160 0 48 (dk_at dksX4_readHouse_4 21 rfl rfl)
theorem dX4_readHouse_118 : decode cX4_readHouse 118 = .ok (.iload_n 2, 1) := dk_28 (dk_at dksX4_readHouse_5 0 rfl rfl)
theorem dX4_readHouse_119 : decode cX4_readHouse 119 = .ok (.aload_n 0, 1) := dk_42 (dk_at dksX4_readHouse_5 1 rfl rfl)
theorem dX4_readHouse_120 : decode cX4_readHouse 120 = .ok (.getfield 7, 3) := dk_180 0 7 (dk_at dksX4_readHouse_5 2 rfl rfl)
theorem dX4_readHouse_123 : decode cX4_readHouse 123 = .ok (.iconst 0, 1) := dk_3 (dk_at dksX4_readHouse_5 5 rfl rfl)
theorem dX4_readHouse_124 : decode cX4_readHouse 124 = .ok (.iaload, 1) := dk_46 (dk_at dksX4_readHouse_5 6 rfl rfl)
theorem dX4_readHouse_125 : decode cX4_readHouse 125 = .ok (.if_icmp .ne 12, 3) := dk_160 0 12 (dk_at dksX4_readHouse_5 7 rfl rfl)
theorem dX4_readHouse_128 : decode cX4_readHouse 128 = .ok (.aload_n 0, 1) := dk_42 (dk_at dksX4_readHouse_5 10 rfl rfl)
theorem dX4_readHouse_129 : decode cX4_readHouse 129 = .ok (.aload_n 0, 1) := dk_42 (dk_at dksX4_readHouse_5 11 rfl rfl)
theorem dX4_readHouse_130 : decode cX4_readHouse 130 = .ok (.getfield 88, 3) := dk_180 0 88 (dk_at dksX4_readHouse_5 12 rfl rfl)
theorem dX4_readHouse_133 : decode cX4_readHouse 133 = .ok (.invokevirtual 101, 3) := dk_182 0 101 (dk_at dksX4_readHouse_5 15 rfl rfl)
theorem dX4_readHouse_136 : decode cX4_readHouse 136 = .ok (.return_, 1) := dk_177 (dk_at dksX4_readHouse_5 18 rfl rfl)
theorem dX4_readHouse_137 : decode cX4_readHouse 137 = .ok (.aload_n 0, 1) := dk_42 (dk_at dksX4_readHouse_5 19 rfl rfl)
theorem dX4_readHouse_138 : decode cX4_readHouse 138 = .ok (.getfield 7, 3) := dk_180 0 7 (dk_at dksX4_readHouse_5 20 rfl rfl)
theorem dX4_readHouse_141 : decode cX4_readHouse 141 = .ok (.bipush 40, 2) := dk_16 40 (dk_at dksX4_readHouse_6 0 rfl rfl)
theorem dX4_readHouse_143 : decode cX4_readHouse 143 = .ok (.iconst 4, 1) := dk_7 (dk_at dksX4_readHouse_6 2 rfl rfl)
theorem dX4_readHouse_144 : decode cX4_readHouse 144 = .ok (.iload_n 1, 1) := dk_27 (dk_at dksX4_readHouse_6 3 rfl rfl)
theorem dX4_readHouse_145 : decode cX4_readHouse 145 = .ok (.imul, 1) := dk_104 (dk_at dksX4_readHouse_6 4 rfl rfl)
theorem dX4_readHouse_146 : decode cX4_readHouse 146 = .ok (.iadd, 1) := dk_96 (dk_at dksX4_readHouse_6 5 rfl rfl)
theorem dX4_readHouse_147 : decode cX4_readHouse 147 = .ok (.iload_n 2, 1) := dk_28 (dk_at dksX4_readHouse_6 6 rfl rfl)
theorem dX4_readHouse_148 : decode cX4_readHouse 148 = .ok (.iadd, 1) := dk_96 (dk_at dksX4_readHouse_6 7 rfl rfl)
theorem dX4_readHouse_149 : decode cX4_readHouse 149 = .ok (.aload_n 0, 1) := dk_42 (dk_at dksX4_readHouse_6 8 rfl rfl)
theorem dX4_readHouse_150 : decode cX4_readHouse 150 = .ok (.iconst 0, 1) := dk_3 (dk_at dksX4_readHouse_6 9 rfl rfl)
theorem dX4_readHouse_151 : decode cX4_readHouse 151 = .ok (.bipush 60, 2) := dk_16 60 (dk_at dksX4_readHouse_6 10 rfl rfl)
theorem dX4_readHouse_153 : decode cX4_readHouse 153 = .ok (.invokevirtual 116, 3) := dk_182 0 116 (dk_at dksX4_readHouse_6 12 rfl rfl)
theorem dX4_readHouse_156 : decode cX4_readHouse 156 = .ok (.iastore, 1) := dk_79 (dk_at dksX4_readHouse_6 15 rfl rfl)
theorem dX4_readHouse_157 : decode cX4_readHouse 157 = .ok (.iinc 2 1, 3) := dk_132 2 1 (dk_at dksX4_readHouse_6 16 rfl rfl)
theorem dX4_readHouse_160 : decode cX4_readHouse 160 = .ok (.goto (-58), 3) := dk_167 255 198 (dk_at dksX4_readHouse_6 19 rfl rfl)
theorem dX4_readHouse_163 : decode cX4_readHouse 163 = .ok (.aload_n 0, 1) := dk_42 (dk_at dksX4_readHouse_6 22 rfl rfl)
theorem dX4_readHouse_164 : decode cX4_readHouse 164 = .ok (.getfield 7, 3) := dk_180 0 7 (dk_at dksX4_readHouse_7 0 rfl rfl)
theorem dX4_readHouse_167 : decode cX4_readHouse 167 = .ok (.iconst 1, 1) := dk_4 (dk_at dksX4_readHouse_7 3 rfl rfl)
theorem dX4_readHouse_168 : decode cX4_readHouse 168 = .ok (.dup2, 1) := dk_92 (dk_at dksX4_readHouse_7 4 rfl rfl)
theorem dX4_readHouse_169 : decode cX4_readHouse 169 = .ok (.iaload, 1) := dk_46 (dk_at dksX4_readHouse_7 5 rfl rfl)
theorem dX4_readHouse_170 : decode cX4_readHouse 170 = .ok (.aload_n 0, 1) := dk_42 (dk_at dksX4_readHouse_7 6 rfl rfl)
theorem dX4_readHouse_171 : decode cX4_readHouse 171 = .ok (.getfield 82, 3) := dk_180 0 82 (dk_at dksX4_readHouse_7 7 rfl rfl)
theorem dX4_readHouse_174 : decode cX4_readHouse 174 = .ok (.iconst (-1), 1) := dk_2 (dk_at dksX4_readHouse_7 10 rfl rfl)
theorem dX4_readHouse_175 : decode cX4_readHouse 175 = .ok (.if_icmp .ne 7, 3) := dk_160 0 7 (dk_at dksX4_readHouse_7 11 rfl rfl)
theorem dX4_readHouse_178 : decode cX4_readHouse 178 = .ok (.iconst 1, 1) := dk_4 (dk_at dksX4_readHouse_7 14 rfl rfl)
theorem dX4_readHouse_179 : decode cX4_readHouse 179 = .ok (.goto 4, 3) := dk_167 0 4 (dk_at dksX4_readHouse_7 15 rfl rfl)
theorem dX4_readHouse_182 : decode cX4_readHouse 182 = .ok (.iconst 0, 1) := dk_3 (dk_at dksX4_readHouse_7 18 rfl rfl)
theorem dX4_readHouse_183 : decode cX4_readHouse 183 = .ok (.iadd, 1) := dk_96 (dk_at dksX4_readHouse_7 19 rfl rfl)
theorem dX4_readHouse_184 : decode cX4_readHouse 184 = .ok (.iastore, 1) := dk_79 (dk_at dksX4_readHouse_7 20 rfl rfl)
theorem dX4_readHouse_185 : decode cX4_readHouse 185 = .ok (.return_, 1) := dk_177 (dk_at dksX4_readHouse_7 21 rfl rfl)
def dkwX4_readLoan_4 : List UInt8 := [96, 29, 79, 177]
abbrev dktX4_readLoan_4 : List UInt8 := dkwX4_readLoan_4 ++ []
def dkwX4_readLoan_3 : List UInt8 := [182, 0, 116, 62, 42, 180, 0, 82, 2, 160, 0, 18, 42, 180, 0, 7, 16, 64, 16, 6, 27, 104, 96, 28]
abbrev dktX4_readLoan_3 : List UInt8 := dkwX4_readLoan_3 ++ dktX4_readLoan_4
def dkwX4_readLoan_2 : List UInt8 := [182, 0, 101, 42, 3, 42, 180, 0, 7, 4, 46, 4, 100, 182, 0, 116, 61, 42, 3, 17, 3, 231]
abbrev dktX4_readLoan_2 : List UInt8 := dkwX4_readLoan_2 ++ dktX4_readLoan_3
def dkwX4_readLoan_1 : List UInt8 := [160, 0, 27, 42, 180, 0, 105, 5, 160, 0, 19, 42, 180, 0, 91, 27, 160, 0, 11, 42, 42, 180, 0, 88]
abbrev dktX4_readLoan_1 : List UInt8 := dkwX4_readLoan_1 ++ dktX4_readLoan_2
def dkwX4_readLoan_0 : List UInt8 := [42, 182, 0, 113, 42, 3, 42, 180, 0, 7, 4, 46, 4, 100, 182, 0, 116, 60, 42, 180, 0, 82, 2]
abbrev dktX4_readLoan_0 : List UInt8 := dkwX4_readLoan_0 ++ dktX4_readLoan_1
theorem dksX4_readLoan_0 : cX4_readLoan.data.toList.drop 0 = dktX4_readLoan_0 := by decide +kernel
theorem dksX4_readLoan_1 : cX4_readLoan.data.toList.drop 23 = dktX4_readLoan_1 := dk_seg dksX4_readLoan_0 23 rfl rfl
theorem dksX4_readLoan_2 : cX4_readLoan.data.toList.drop 47 = dktX4_readLoan_2 := dk_seg dksX4_readLoan_1 24 rfl rfl
theorem dksX4_readLoan_3 : cX4_readLoan.data.toList.drop 69 = dktX4_readLoan_3 := dk_seg dksX4_readLoan_2 22 rfl rfl
theorem dksX4_readLoan_4 : cX4_readLoan.data.toList.drop 93 = dktX4_readLoan_4 := dk_seg dksX4_readLoan_3 24 rfl rfl
theorem dX4_readLoan_0 : decode cX4_readLoan 0 = .ok (.aload_n 0, 1) := dk_42 (dk_at dksX4_readLoan_0 0 rfl rfl)
theorem dX4_readLoan_1 : decode cX4_readLoan 1 = .ok (.invokevirtual 113, 3) := dk_182 0 113 (dk_at dksX4_readLoan_0 1 rfl rfl)
theorem dX4_readLoan_4 : decode cX4_readLoan 4 = .ok (.aload_n 0, 1) := dk_42 (dk_at dksX4_readLoan_0 4 rfl rfl)
theorem dX4_readLoan_5 : decode cX4_readLoan 5 = .ok (.iconst 0, 1) := dk_3 (dk_at dksX4_readLoan_0 5 rfl rfl)
theorem dX4_readLoan_6 : decode cX4_readLoan 6 = .ok (.aload_n 0, 1) := dk_42 (dk_at dksX4_readLoan_0 6 rfl rfl)
theorem dX4_readLoan_7 : decode cX4_readLoan 7 = .ok (.getfield 7, 3) := dk_180 0 7 (dk_at dksX4_readLoan_0 7 rfl rfl)
theorem dX4_readLoan_10 : decode cX4_readLoan 10 = .ok (.iconst 1, 1) := dk_4 (dk_at dksX4_readLoan_0 10 rfl rfl)
theorem dX4_readLoan_11 : decode cX4_readLoan 11 = .ok (.iaload, 1) := dk_46 (dk_at dksX4_readLoan_0 11 rfl rfl)
theorem dX4_readLoan_12 : decode cX4_readLoan 12 = .ok (.iconst 1, 1) := dk_4 (dk_at dksX4_readLoan_0 12 rfl rfl)
theorem dX4_readLoan_13 : decode cX4_readLoan 13 = .ok (.isub, 1) := dk_100 (dk_at dksX4_readLoan_0 13 rfl rfl)
theorem dX4_readLoan_14 : decode cX4_readLoan 14 = .ok (.invokevirtual 116, 3) := dk_182 0 116 (dk_at dksX4_readLoan_0 14 rfl rfl)
theorem dX4_readLoan_17 : decode cX4_readLoan 17 = .ok (.istore_n 1, 1) := dk_60 (dk_at dksX4_readLoan_0 17 rfl rfl)
theorem dX4_readLoan_18 : decode cX4_readLoan 18 = .ok (.aload_n 0, 1) := dk_42 (dk_at dksX4_readLoan_0 18 rfl rfl)
theorem dX4_readLoan_19 : decode cX4_readLoan 19 = .ok (.getfield 82, 3) := dk_180 0 82 (dk_at dksX4_readLoan_0 19 rfl rfl)
theorem dX4_readLoan_22 : decode cX4_readLoan 22 = .ok (.iconst (-1), 1) := dk_2 (dk_at dksX4_readLoan_0 22 rfl rfl)
theorem dX4_readLoan_23 : decode cX4_readLoan 23 = .ok (.if_icmp .ne 27, 3) := dk_160 0 27 (dk_at dksX4_readLoan_1 0 rfl rfl)
theorem dX4_readLoan_26 : decode cX4_readLoan 26 = .ok (.aload_n 0, 1) := dk_42 (dk_at dksX4_readLoan_1 3 rfl rfl)
theorem dX4_readLoan_27 : decode cX4_readLoan 27 = .ok (.getfield 105, 3) := dk_180 0 105 (dk_at dksX4_readLoan_1 4 rfl rfl)
theorem dX4_readLoan_30 : decode cX4_readLoan 30 = .ok (.iconst 2, 1) := dk_5 (dk_at dksX4_readLoan_1 7 rfl rfl)
theorem dX4_readLoan_31 : decode cX4_readLoan 31 = .ok (.if_icmp .ne 19, 3) := dk_160 0 19 (dk_at dksX4_readLoan_1 8 rfl rfl)
theorem dX4_readLoan_34 : decode cX4_readLoan 34 = .ok (.aload_n 0, 1) := dk_42 (dk_at dksX4_readLoan_1 11 rfl rfl)
theorem dX4_readLoan_35 : decode cX4_readLoan 35 = .ok (.getfield 91, 3) := dk_180 0 91 (dk_at dksX4_readLoan_1 12 rfl rfl)
theorem dX4_readLoan_38 : decode cX4_readLoan 38 = .ok (.iload_n 1, 1) := dk_27 (dk_at dksX4_readLoan_1 15 rfl rfl)
theorem dX4_readLoan_39 : decode cX4_readLoan 39 = .ok (.if_icmp .ne 11, 3) := dk_160 0 11 (dk_at dksX4_readLoan_1 16 rfl rfl)
theorem dX4_readLoan_42 : decode cX4_readLoan 42 = .ok (.aload_n 0, 1) := dk_42 (dk_at dksX4_readLoan_1 19 rfl rfl)
theorem dX4_readLoan_43 : decode cX4_readLoan 43 = .ok (.aload_n 0, 1) := dk_42 (dk_at dksX4_readLoan_1 20 rfl rfl)
theorem dX4_readLoan_44 : decode cX4_readLoan 44 = .ok (.getfield 88, 3) := dk_180 0 88 (dk_at dksX4_readLoan_1 21 rfl rfl)
theorem dX4_readLoan_47 : decode cX4_readLoan 47 = .ok (.invokevirtual 101, 3) := dk_182 0 101 (dk_at dksX4_readLoan_2 0 rfl rfl)
theorem dX4_readLoan_50 : decode cX4_readLoan 50 = .ok (.aload_n 0, 1) := dk_42 (dk_at dksX4_readLoan_2 3 rfl rfl)
theorem dX4_readLoan_51 : decode cX4_readLoan 51 = .ok (.iconst 0, 1) := dk_3 (dk_at dksX4_readLoan_2 4 rfl rfl)
theorem dX4_readLoan_52 : decode cX4_readLoan 52 = .ok (.aload_n 0, 1) := dk_42 (dk_at dksX4_readLoan_2 5 rfl rfl)
theorem dX4_readLoan_53 : decode cX4_readLoan 53 = .ok (.getfield 7, 3) := dk_180 0 7 (dk_at dksX4_readLoan_2 6 rfl rfl)
theorem dX4_readLoan_56 : decode cX4_readLoan 56 = .ok (.iconst 1, 1) := dk_4 (dk_at dksX4_readLoan_2 9 rfl rfl)
theorem dX4_readLoan_57 : decode cX4_readLoan 57 = .ok (.iaload, 1) := dk_46 (dk_at dksX4_readLoan_2 10 rfl rfl)
theorem dX4_readLoan_58 : decode cX4_readLoan 58 = .ok (.iconst 1, 1) := dk_4 (dk_at dksX4_readLoan_2 11 rfl rfl)
theorem dX4_readLoan_59 : decode cX4_readLoan 59 = .ok (.isub, 1) := dk_100 (dk_at dksX4_readLoan_2 12 rfl rfl)
theorem dX4_readLoan_60 : decode cX4_readLoan 60 = .ok (.invokevirtual 116, 3) := dk_182 0 116 (dk_at dksX4_readLoan_2 13 rfl rfl)
theorem dX4_readLoan_63 : decode cX4_readLoan 63 = .ok (.istore_n 2, 1) := dk_61 (dk_at dksX4_readLoan_2 16 rfl rfl)
theorem dX4_readLoan_64 : decode cX4_readLoan 64 = .ok (.aload_n 0, 1) := dk_42 (dk_at dksX4_readLoan_2 17 rfl rfl)
theorem dX4_readLoan_65 : decode cX4_readLoan 65 = .ok (.iconst 0, 1) := dk_3 (dk_at dksX4_readLoan_2 18 rfl rfl)
theorem dX4_readLoan_66 : decode cX4_readLoan 66 = .ok (.sipush 999, 3) := dk_17 3 231 (dk_at dksX4_readLoan_2 19 rfl rfl)
theorem dX4_readLoan_69 : decode cX4_readLoan 69 = .ok (.invokevirtual 116, 3) := dk_182 0 116 (dk_at dksX4_readLoan_3 0 rfl rfl)
theorem dX4_readLoan_72 : decode cX4_readLoan 72 = .ok (.istore_n 3, 1) := dk_62 (dk_at dksX4_readLoan_3 3 rfl rfl)
theorem dX4_readLoan_73 : decode cX4_readLoan 73 = .ok (.aload_n 0, 1) := dk_42 (dk_at dksX4_readLoan_3 4 rfl rfl)
theorem dX4_readLoan_74 : decode cX4_readLoan 74 = .ok (.getfield 82, 3) := dk_180 0 82 (dk_at dksX4_readLoan_3 5 rfl rfl)
theorem dX4_readLoan_77 : decode cX4_readLoan 77 = .ok (.iconst (-1), 1) := dk_2 (dk_at dksX4_readLoan_3 8 rfl rfl)
theorem dX4_readLoan_78 : decode cX4_readLoan 78 = .ok (.if_icmp .ne 18, 3) := dk_160 0 18 (dk_at dksX4_readLoan_3 9 rfl rfl)
theorem dX4_readLoan_81 : decode cX4_readLoan 81 = .ok (.aload_n 0, 1) := dk_42 (dk_at dksX4_readLoan_3 12 rfl rfl)
theorem dX4_readLoan_82 : decode cX4_readLoan 82 = .ok (.getfield 7, 3) := dk_180 0 7 (dk_at dksX4_readLoan_3 13 rfl rfl)
theorem dX4_readLoan_85 : decode cX4_readLoan 85 = .ok (.bipush 64, 2) := dk_16 64 (dk_at dksX4_readLoan_3 16 rfl rfl)
theorem dX4_readLoan_87 : decode cX4_readLoan 87 = .ok (.bipush 6, 2) := dk_16 6 (dk_at dksX4_readLoan_3 18 rfl rfl)
theorem dX4_readLoan_89 : decode cX4_readLoan 89 = .ok (.iload_n 1, 1) := dk_27 (dk_at dksX4_readLoan_3 20 rfl rfl)
theorem dX4_readLoan_90 : decode cX4_readLoan 90 = .ok (.imul, 1) := dk_104 (dk_at dksX4_readLoan_3 21 rfl rfl)
theorem dX4_readLoan_91 : decode cX4_readLoan 91 = .ok (.iadd, 1) := dk_96 (dk_at dksX4_readLoan_3 22 rfl rfl)
theorem dX4_readLoan_92 : decode cX4_readLoan 92 = .ok (.iload_n 2, 1) := dk_28 (dk_at dksX4_readLoan_3 23 rfl rfl)
theorem dX4_readLoan_93 : decode cX4_readLoan 93 = .ok (.iadd, 1) := dk_96 (dk_at dksX4_readLoan_4 0 rfl rfl)
theorem dX4_readLoan_94 : decode cX4_readLoan 94 = .ok (.iload_n 3, 1) := dk_29 (dk_at dksX4_readLoan_4 1 rfl rfl)
theorem dX4_readLoan_95 : decode cX4_readLoan 95 = .ok (.iastore, 1) := dk_79 (dk_at dksX4_readLoan_4 2 rfl rfl)
theorem dX4_readLoan_96 : decode cX4_readLoan 96 = .ok (.return_, 1) := dk_177 (dk_at dksX4_readLoan_4 3 rfl rfl)
def dkwX4_readLaid_3 : List UInt8 := [28, 29, 182, 0, 119, 177]
abbrev dktX4_readLaid_3 : List UInt8 := dkwX4_readLaid_3 ++ []
def dkwX4_readLaid_2 : List UInt8 := [17, 1, 104, 167, 0, 6, 17, 0, 200, 182, 0, 116, 62, 42, 180, 0, 82, 2, 160, 0, 11, 42, 27, 27]
abbrev dktX4_readLaid_2 : List UInt8 := dkwX4_readLaid_2 ++ dktX4_readLaid_3
def dkwX4_readLaid_1 : List UInt8 := [42, 182, 0, 113, 42, 3, 42, 180, 0, 7, 3, 46, 4, 100, 182, 0, 116, 61, 42, 3, 27, 154, 0, 9]
abbrev dktX4_readLaid_1 : List UInt8 := dkwX4_readLaid_1 ++ dktX4_readLaid_2
def dkwX4_readLaid_0 : List UInt8 := [42, 180, 0, 7, 16, 100, 16, 13, 27, 104, 96, 46, 7, 160, 0, 11, 42, 42, 180, 0, 88, 182, 0, 101]
abbrev dktX4_readLaid_0 : List UInt8 := dkwX4_readLaid_0 ++ dktX4_readLaid_1
theorem dksX4_readLaid_0 : cX4_readLaid.data.toList.drop 0 = dktX4_readLaid_0 := by decide +kernel
theorem dksX4_readLaid_1 : cX4_readLaid.data.toList.drop 24 = dktX4_readLaid_1 := dk_seg dksX4_readLaid_0 24 rfl rfl
theorem dksX4_readLaid_2 : cX4_readLaid.data.toList.drop 48 = dktX4_readLaid_2 := dk_seg dksX4_readLaid_1 24 rfl rfl
theorem dksX4_readLaid_3 : cX4_readLaid.data.toList.drop 72 = dktX4_readLaid_3 := dk_seg dksX4_readLaid_2 24 rfl rfl
theorem dX4_readLaid_0 : decode cX4_readLaid 0 = .ok (.aload_n 0, 1) := dk_42 (dk_at dksX4_readLaid_0 0 rfl rfl)
theorem dX4_readLaid_1 : decode cX4_readLaid 1 = .ok (.getfield 7, 3) := dk_180 0 7 (dk_at dksX4_readLaid_0 1 rfl rfl)
theorem dX4_readLaid_4 : decode cX4_readLaid 4 = .ok (.bipush 100, 2) := dk_16 100 (dk_at dksX4_readLaid_0 4 rfl rfl)
theorem dX4_readLaid_6 : decode cX4_readLaid 6 = .ok (.bipush 13, 2) := dk_16 13 (dk_at dksX4_readLaid_0 6 rfl rfl)
theorem dX4_readLaid_8 : decode cX4_readLaid 8 = .ok (.iload_n 1, 1) := dk_27 (dk_at dksX4_readLaid_0 8 rfl rfl)
theorem dX4_readLaid_9 : decode cX4_readLaid 9 = .ok (.imul, 1) := dk_104 (dk_at dksX4_readLaid_0 9 rfl rfl)
theorem dX4_readLaid_10 : decode cX4_readLaid 10 = .ok (.iadd, 1) := dk_96 (dk_at dksX4_readLaid_0 10 rfl rfl)
theorem dX4_readLaid_11 : decode cX4_readLaid 11 = .ok (.iaload, 1) := dk_46 (dk_at dksX4_readLaid_0 11 rfl rfl)
theorem dX4_readLaid_12 : decode cX4_readLaid 12 = .ok (.iconst 4, 1) := dk_7 (dk_at dksX4_readLaid_0 12 rfl rfl)
theorem dX4_readLaid_13 : decode cX4_readLaid 13 = .ok (.if_icmp .ne 11, 3) := dk_160 0 11 (dk_at dksX4_readLaid_0 13 rfl rfl)
theorem dX4_readLaid_16 : decode cX4_readLaid 16 = .ok (.aload_n 0, 1) := dk_42 (dk_at dksX4_readLaid_0 16 rfl rfl)
theorem dX4_readLaid_17 : decode cX4_readLaid 17 = .ok (.aload_n 0, 1) := dk_42 (dk_at dksX4_readLaid_0 17 rfl rfl)
theorem dX4_readLaid_18 : decode cX4_readLaid 18 = .ok (.getfield 88, 3) := dk_180 0 88 (dk_at dksX4_readLaid_0 18 rfl rfl)
theorem dX4_readLaid_21 : decode cX4_readLaid 21 = .ok (.invokevirtual 101, 3) := dk_182 0 101 (dk_at dksX4_readLaid_0 21 rfl rfl)
theorem dX4_readLaid_24 : decode cX4_readLaid 24 = .ok (.aload_n 0, 1) := dk_42 (dk_at dksX4_readLaid_1 0 rfl rfl)
theorem dX4_readLaid_25 : decode cX4_readLaid 25 = .ok (.invokevirtual 113, 3) := dk_182 0 113 (dk_at dksX4_readLaid_1 1 rfl rfl)
theorem dX4_readLaid_28 : decode cX4_readLaid 28 = .ok (.aload_n 0, 1) := dk_42 (dk_at dksX4_readLaid_1 4 rfl rfl)
theorem dX4_readLaid_29 : decode cX4_readLaid 29 = .ok (.iconst 0, 1) := dk_3 (dk_at dksX4_readLaid_1 5 rfl rfl)
theorem dX4_readLaid_30 : decode cX4_readLaid 30 = .ok (.aload_n 0, 1) := dk_42 (dk_at dksX4_readLaid_1 6 rfl rfl)
theorem dX4_readLaid_31 : decode cX4_readLaid 31 = .ok (.getfield 7, 3) := dk_180 0 7 (dk_at dksX4_readLaid_1 7 rfl rfl)
theorem dX4_readLaid_34 : decode cX4_readLaid 34 = .ok (.iconst 0, 1) := dk_3 (dk_at dksX4_readLaid_1 10 rfl rfl)
theorem dX4_readLaid_35 : decode cX4_readLaid 35 = .ok (.iaload, 1) := dk_46 (dk_at dksX4_readLaid_1 11 rfl rfl)
theorem dX4_readLaid_36 : decode cX4_readLaid 36 = .ok (.iconst 1, 1) := dk_4 (dk_at dksX4_readLaid_1 12 rfl rfl)
theorem dX4_readLaid_37 : decode cX4_readLaid 37 = .ok (.isub, 1) := dk_100 (dk_at dksX4_readLaid_1 13 rfl rfl)
theorem dX4_readLaid_38 : decode cX4_readLaid 38 = .ok (.invokevirtual 116, 3) := dk_182 0 116 (dk_at dksX4_readLaid_1 14 rfl rfl)
theorem dX4_readLaid_41 : decode cX4_readLaid 41 = .ok (.istore_n 2, 1) := dk_61 (dk_at dksX4_readLaid_1 17 rfl rfl)
theorem dX4_readLaid_42 : decode cX4_readLaid 42 = .ok (.aload_n 0, 1) := dk_42 (dk_at dksX4_readLaid_1 18 rfl rfl)
theorem dX4_readLaid_43 : decode cX4_readLaid 43 = .ok (.iconst 0, 1) := dk_3 (dk_at dksX4_readLaid_1 19 rfl rfl)
theorem dX4_readLaid_44 : decode cX4_readLaid 44 = .ok (.iload_n 1, 1) := dk_27 (dk_at dksX4_readLaid_1 20 rfl rfl)
theorem dX4_readLaid_45 : decode cX4_readLaid 45 = .ok (.ifCond .ne 9, 3) := dk_154 0 9 (dk_at dksX4_readLaid_1 21 rfl rfl)
theorem dX4_readLaid_48 : decode cX4_readLaid 48 = .ok (.sipush 360, 3) := dk_17 1 104 (dk_at dksX4_readLaid_2 0 rfl rfl)
theorem dX4_readLaid_51 : decode cX4_readLaid 51 = .ok (.goto 6, 3) := dk_167 0 6 (dk_at dksX4_readLaid_2 3 rfl rfl)
theorem dX4_readLaid_54 : decode cX4_readLaid 54 = .ok (.sipush 200, 3) := dk_17 0 200 (dk_at dksX4_readLaid_2 6 rfl rfl)
theorem dX4_readLaid_57 : decode cX4_readLaid 57 = .ok (.invokevirtual 116, 3) := dk_182 0 116 (dk_at dksX4_readLaid_2 9 rfl rfl)
theorem dX4_readLaid_60 : decode cX4_readLaid 60 = .ok (.istore_n 3, 1) := dk_62 (dk_at dksX4_readLaid_2 12 rfl rfl)
theorem dX4_readLaid_61 : decode cX4_readLaid 61 = .ok (.aload_n 0, 1) := dk_42 (dk_at dksX4_readLaid_2 13 rfl rfl)
theorem dX4_readLaid_62 : decode cX4_readLaid 62 = .ok (.getfield 82, 3) := dk_180 0 82 (dk_at dksX4_readLaid_2 14 rfl rfl)
theorem dX4_readLaid_65 : decode cX4_readLaid 65 = .ok (.iconst (-1), 1) := dk_2 (dk_at dksX4_readLaid_2 17 rfl rfl)
theorem dX4_readLaid_66 : decode cX4_readLaid 66 = .ok (.if_icmp .ne 11, 3) := dk_160 0 11 (dk_at dksX4_readLaid_2 18 rfl rfl)
theorem dX4_readLaid_69 : decode cX4_readLaid 69 = .ok (.aload_n 0, 1) := dk_42 (dk_at dksX4_readLaid_2 21 rfl rfl)
theorem dX4_readLaid_70 : decode cX4_readLaid 70 = .ok (.iload_n 1, 1) := dk_27 (dk_at dksX4_readLaid_2 22 rfl rfl)
theorem dX4_readLaid_71 : decode cX4_readLaid 71 = .ok (.iload_n 1, 1) := dk_27 (dk_at dksX4_readLaid_2 23 rfl rfl)
theorem dX4_readLaid_72 : decode cX4_readLaid 72 = .ok (.iload_n 2, 1) := dk_28 (dk_at dksX4_readLaid_3 0 rfl rfl)
theorem dX4_readLaid_73 : decode cX4_readLaid 73 = .ok (.iload_n 3, 1) := dk_29 (dk_at dksX4_readLaid_3 1 rfl rfl)
theorem dX4_readLaid_74 : decode cX4_readLaid 74 = .ok (.invokevirtual 119, 3) := dk_182 0 119 (dk_at dksX4_readLaid_3 2 rfl rfl)
theorem dX4_readLaid_77 : decode cX4_readLaid 77 = .ok (.return_, 1) := dk_177 (dk_at dksX4_readLaid_3 5 rfl rfl)
def dkwX4_lays_2 : List UInt8 := [21, 6, 5, 96, 21, 4, 79, 42, 180, 0, 7, 21, 5, 92, 46, 4, 96, 79, 177]
abbrev dktX4_lays_2 : List UInt8 := dkwX4_lays_2 ++ []
def dkwX4_lays_1 : List UInt8 := [54, 6, 42, 180, 0, 7, 21, 6, 28, 79, 42, 180, 0, 7, 21, 6, 4, 96, 29, 79, 42, 180, 0, 7]
abbrev dktX4_lays_1 : List UInt8 := dkwX4_lays_1 ++ dktX4_lays_2
def dkwX4_lays_0 : List UInt8 := [16, 100, 16, 13, 27, 104, 96, 54, 5, 21, 5, 4, 96, 6, 42, 180, 0, 7, 21, 5, 46, 104, 96]
abbrev dktX4_lays_0 : List UInt8 := dkwX4_lays_0 ++ dktX4_lays_1
theorem dksX4_lays_0 : cX4_lays.data.toList.drop 0 = dktX4_lays_0 := by decide +kernel
theorem dksX4_lays_1 : cX4_lays.data.toList.drop 23 = dktX4_lays_1 := dk_seg dksX4_lays_0 23 rfl rfl
theorem dksX4_lays_2 : cX4_lays.data.toList.drop 47 = dktX4_lays_2 := dk_seg dksX4_lays_1 24 rfl rfl
theorem dX4_lays_0 : decode cX4_lays 0 = .ok (.bipush 100, 2) := dk_16 100 (dk_at dksX4_lays_0 0 rfl rfl)
theorem dX4_lays_2 : decode cX4_lays 2 = .ok (.bipush 13, 2) := dk_16 13 (dk_at dksX4_lays_0 2 rfl rfl)
theorem dX4_lays_4 : decode cX4_lays 4 = .ok (.iload_n 1, 1) := dk_27 (dk_at dksX4_lays_0 4 rfl rfl)
theorem dX4_lays_5 : decode cX4_lays 5 = .ok (.imul, 1) := dk_104 (dk_at dksX4_lays_0 5 rfl rfl)
theorem dX4_lays_6 : decode cX4_lays 6 = .ok (.iadd, 1) := dk_96 (dk_at dksX4_lays_0 6 rfl rfl)
theorem dX4_lays_7 : decode cX4_lays 7 = .ok (.istore 5, 2) := dk_54 5 (dk_at dksX4_lays_0 7 rfl rfl)
theorem dX4_lays_9 : decode cX4_lays 9 = .ok (.iload 5, 2) := dk_21 5 (dk_at dksX4_lays_0 9 rfl rfl)
theorem dX4_lays_11 : decode cX4_lays 11 = .ok (.iconst 1, 1) := dk_4 (dk_at dksX4_lays_0 11 rfl rfl)
theorem dX4_lays_12 : decode cX4_lays 12 = .ok (.iadd, 1) := dk_96 (dk_at dksX4_lays_0 12 rfl rfl)
theorem dX4_lays_13 : decode cX4_lays 13 = .ok (.iconst 3, 1) := dk_6 (dk_at dksX4_lays_0 13 rfl rfl)
theorem dX4_lays_14 : decode cX4_lays 14 = .ok (.aload_n 0, 1) := dk_42 (dk_at dksX4_lays_0 14 rfl rfl)
theorem dX4_lays_15 : decode cX4_lays 15 = .ok (.getfield 7, 3) := dk_180 0 7 (dk_at dksX4_lays_0 15 rfl rfl)
theorem dX4_lays_18 : decode cX4_lays 18 = .ok (.iload 5, 2) := dk_21 5 (dk_at dksX4_lays_0 18 rfl rfl)
theorem dX4_lays_20 : decode cX4_lays 20 = .ok (.iaload, 1) := dk_46 (dk_at dksX4_lays_0 20 rfl rfl)
theorem dX4_lays_21 : decode cX4_lays 21 = .ok (.imul, 1) := dk_104 (dk_at dksX4_lays_0 21 rfl rfl)
theorem dX4_lays_22 : decode cX4_lays 22 = .ok (.iadd, 1) := dk_96 (dk_at dksX4_lays_0 22 rfl rfl)
theorem dX4_lays_23 : decode cX4_lays 23 = .ok (.istore 6, 2) := dk_54 6 (dk_at dksX4_lays_1 0 rfl rfl)
theorem dX4_lays_25 : decode cX4_lays 25 = .ok (.aload_n 0, 1) := dk_42 (dk_at dksX4_lays_1 2 rfl rfl)
theorem dX4_lays_26 : decode cX4_lays 26 = .ok (.getfield 7, 3) := dk_180 0 7 (dk_at dksX4_lays_1 3 rfl rfl)
theorem dX4_lays_29 : decode cX4_lays 29 = .ok (.iload 6, 2) := dk_21 6 (dk_at dksX4_lays_1 6 rfl rfl)
theorem dX4_lays_31 : decode cX4_lays 31 = .ok (.iload_n 2, 1) := dk_28 (dk_at dksX4_lays_1 8 rfl rfl)
theorem dX4_lays_32 : decode cX4_lays 32 = .ok (.iastore, 1) := dk_79 (dk_at dksX4_lays_1 9 rfl rfl)
theorem dX4_lays_33 : decode cX4_lays 33 = .ok (.aload_n 0, 1) := dk_42 (dk_at dksX4_lays_1 10 rfl rfl)
theorem dX4_lays_34 : decode cX4_lays 34 = .ok (.getfield 7, 3) := dk_180 0 7 (dk_at dksX4_lays_1 11 rfl rfl)
theorem dX4_lays_37 : decode cX4_lays 37 = .ok (.iload 6, 2) := dk_21 6 (dk_at dksX4_lays_1 14 rfl rfl)
theorem dX4_lays_39 : decode cX4_lays 39 = .ok (.iconst 1, 1) := dk_4 (dk_at dksX4_lays_1 16 rfl rfl)
theorem dX4_lays_40 : decode cX4_lays 40 = .ok (.iadd, 1) := dk_96 (dk_at dksX4_lays_1 17 rfl rfl)
theorem dX4_lays_41 : decode cX4_lays 41 = .ok (.iload_n 3, 1) := dk_29 (dk_at dksX4_lays_1 18 rfl rfl)
theorem dX4_lays_42 : decode cX4_lays 42 = .ok (.iastore, 1) := dk_79 (dk_at dksX4_lays_1 19 rfl rfl)
theorem dX4_lays_43 : decode cX4_lays 43 = .ok (.aload_n 0, 1) := dk_42 (dk_at dksX4_lays_1 20 rfl rfl)
theorem dX4_lays_44 : decode cX4_lays 44 = .ok (.getfield 7, 3) := dk_180 0 7 (dk_at dksX4_lays_1 21 rfl rfl)
theorem dX4_lays_47 : decode cX4_lays 47 = .ok (.iload 6, 2) := dk_21 6 (dk_at dksX4_lays_2 0 rfl rfl)
theorem dX4_lays_49 : decode cX4_lays 49 = .ok (.iconst 2, 1) := dk_5 (dk_at dksX4_lays_2 2 rfl rfl)
theorem dX4_lays_50 : decode cX4_lays 50 = .ok (.iadd, 1) := dk_96 (dk_at dksX4_lays_2 3 rfl rfl)
theorem dX4_lays_51 : decode cX4_lays 51 = .ok (.iload 4, 2) := dk_21 4 (dk_at dksX4_lays_2 4 rfl rfl)
theorem dX4_lays_53 : decode cX4_lays 53 = .ok (.iastore, 1) := dk_79 (dk_at dksX4_lays_2 6 rfl rfl)
theorem dX4_lays_54 : decode cX4_lays 54 = .ok (.aload_n 0, 1) := dk_42 (dk_at dksX4_lays_2 7 rfl rfl)
theorem dX4_lays_55 : decode cX4_lays 55 = .ok (.getfield 7, 3) := dk_180 0 7 (dk_at dksX4_lays_2 8 rfl rfl)
theorem dX4_lays_58 : decode cX4_lays 58 = .ok (.iload 5, 2) := dk_21 5 (dk_at dksX4_lays_2 11 rfl rfl)
theorem dX4_lays_60 : decode cX4_lays 60 = .ok (.dup2, 1) := dk_92 (dk_at dksX4_lays_2 13 rfl rfl)
theorem dX4_lays_61 : decode cX4_lays 61 = .ok (.iaload, 1) := dk_46 (dk_at dksX4_lays_2 14 rfl rfl)
theorem dX4_lays_62 : decode cX4_lays 62 = .ok (.iconst 1, 1) := dk_4 (dk_at dksX4_lays_2 15 rfl rfl)
theorem dX4_lays_63 : decode cX4_lays 63 = .ok (.iadd, 1) := dk_96 (dk_at dksX4_lays_2 16 rfl rfl)
theorem dX4_lays_64 : decode cX4_lays 64 = .ok (.iastore, 1) := dk_79 (dk_at dksX4_lays_2 17 rfl rfl)
theorem dX4_lays_65 : decode cX4_lays 65 = .ok (.return_, 1) := dk_177 (dk_at dksX4_lays_2 18 rfl rfl)
def dkwX4_asset_3 : List UInt8 := [3, 92, 46, 4, 96, 79, 42, 180, 0, 7, 3, 46, 4, 100, 172]
abbrev dktX4_asset_3 : List UInt8 := dkwX4_asset_3 ++ []
def dkwX4_asset_2 : List UInt8 := [3, 46, 96, 27, 79, 42, 180, 0, 7, 16, 6, 42, 180, 0, 7, 3, 46, 96, 28, 79, 42, 180, 0, 7]
abbrev dktX4_asset_2 : List UInt8 := dkwX4_asset_2 ++ dktX4_asset_3
def dkwX4_asset_1 : List UInt8 := [180, 0, 7, 3, 46, 7, 160, 0, 5, 2, 172, 42, 182, 0, 234, 42, 180, 0, 7, 5, 42, 180, 0, 7]
abbrev dktX4_asset_1 : List UInt8 := dkwX4_asset_1 ++ dktX4_asset_2
def dkwX4_asset_0 : List UInt8 := [27, 4, 17, 0, 200, 184, 0, 68, 153, 0, 23, 28, 3, 16, 9, 184, 0, 68, 153, 0, 13, 42]
abbrev dktX4_asset_0 : List UInt8 := dkwX4_asset_0 ++ dktX4_asset_1
theorem dksX4_asset_0 : cX4_asset.data.toList.drop 0 = dktX4_asset_0 := by decide +kernel
theorem dksX4_asset_1 : cX4_asset.data.toList.drop 22 = dktX4_asset_1 := dk_seg dksX4_asset_0 22 rfl rfl
theorem dksX4_asset_2 : cX4_asset.data.toList.drop 46 = dktX4_asset_2 := dk_seg dksX4_asset_1 24 rfl rfl
theorem dksX4_asset_3 : cX4_asset.data.toList.drop 70 = dktX4_asset_3 := dk_seg dksX4_asset_2 24 rfl rfl
theorem dX4_asset_0 : decode cX4_asset 0 = .ok (.iload_n 1, 1) := dk_27 (dk_at dksX4_asset_0 0 rfl rfl)
theorem dX4_asset_1 : decode cX4_asset 1 = .ok (.iconst 1, 1) := dk_4 (dk_at dksX4_asset_0 1 rfl rfl)
theorem dX4_asset_2 : decode cX4_asset 2 = .ok (.sipush 200, 3) := dk_17 0 200 (dk_at dksX4_asset_0 2 rfl rfl)
theorem dX4_asset_5 : decode cX4_asset 5 = .ok (.invokestatic 68, 3) := dk_184 0 68 (dk_at dksX4_asset_0 5 rfl rfl)
theorem dX4_asset_8 : decode cX4_asset 8 = .ok (.ifCond .eq 23, 3) := dk_153 0 23 (dk_at dksX4_asset_0 8 rfl rfl)
theorem dX4_asset_11 : decode cX4_asset 11 = .ok (.iload_n 2, 1) := dk_28 (dk_at dksX4_asset_0 11 rfl rfl)
theorem dX4_asset_12 : decode cX4_asset 12 = .ok (.iconst 0, 1) := dk_3 (dk_at dksX4_asset_0 12 rfl rfl)
theorem dX4_asset_13 : decode cX4_asset 13 = .ok (.bipush 9, 2) := dk_16 9 (dk_at dksX4_asset_0 13 rfl rfl)
theorem dX4_asset_15 : decode cX4_asset 15 = .ok (.invokestatic 68, 3) := dk_184 0 68 (dk_at dksX4_asset_0 15 rfl rfl)
theorem dX4_asset_18 : decode cX4_asset 18 = .ok (.ifCond .eq 13, 3) := dk_153 0 13 (dk_at dksX4_asset_0 18 rfl rfl)
theorem dX4_asset_21 : decode cX4_asset 21 = .ok (.aload_n 0, 1) := dk_42 (dk_at dksX4_asset_0 21 rfl rfl)
theorem dX4_asset_22 : decode cX4_asset 22 = .ok (.getfield 7, 3) := dk_180 0 7 (dk_at dksX4_asset_1 0 rfl rfl)
theorem dX4_asset_25 : decode cX4_asset 25 = .ok (.iconst 0, 1) := dk_3 (dk_at dksX4_asset_1 3 rfl rfl)
theorem dX4_asset_26 : decode cX4_asset 26 = .ok (.iaload, 1) := dk_46 (dk_at dksX4_asset_1 4 rfl rfl)
theorem dX4_asset_27 : decode cX4_asset 27 = .ok (.iconst 4, 1) := dk_7 (dk_at dksX4_asset_1 5 rfl rfl)
theorem dX4_asset_28 : decode cX4_asset 28 = .ok (.if_icmp .ne 5, 3) := dk_160 0 5 (dk_at dksX4_asset_1 6 rfl rfl)
theorem dX4_asset_31 : decode cX4_asset 31 = .ok (.iconst (-1), 1) := dk_2 (dk_at dksX4_asset_1 9 rfl rfl)
theorem dX4_asset_32 : decode cX4_asset 32 = .ok (.ireturn, 1) := dk_172 (dk_at dksX4_asset_1 10 rfl rfl)
theorem dX4_asset_33 : decode cX4_asset 33 = .ok (.aload_n 0, 1) := dk_42 (dk_at dksX4_asset_1 11 rfl rfl)
theorem dX4_asset_34 : decode cX4_asset 34 = .ok (.invokevirtual 234, 3) := dk_182 0 234 (dk_at dksX4_asset_1 12 rfl rfl)
theorem dX4_asset_37 : decode cX4_asset 37 = .ok (.aload_n 0, 1) := dk_42 (dk_at dksX4_asset_1 15 rfl rfl)
theorem dX4_asset_38 : decode cX4_asset 38 = .ok (.getfield 7, 3) := dk_180 0 7 (dk_at dksX4_asset_1 16 rfl rfl)
theorem dX4_asset_41 : decode cX4_asset 41 = .ok (.iconst 2, 1) := dk_5 (dk_at dksX4_asset_1 19 rfl rfl)
theorem dX4_asset_42 : decode cX4_asset 42 = .ok (.aload_n 0, 1) := dk_42 (dk_at dksX4_asset_1 20 rfl rfl)
theorem dX4_asset_43 : decode cX4_asset 43 = .ok (.getfield 7, 3) := dk_180 0 7 (dk_at dksX4_asset_1 21 rfl rfl)
theorem dX4_asset_46 : decode cX4_asset 46 = .ok (.iconst 0, 1) := dk_3 (dk_at dksX4_asset_2 0 rfl rfl)
theorem dX4_asset_47 : decode cX4_asset 47 = .ok (.iaload, 1) := dk_46 (dk_at dksX4_asset_2 1 rfl rfl)
theorem dX4_asset_48 : decode cX4_asset 48 = .ok (.iadd, 1) := dk_96 (dk_at dksX4_asset_2 2 rfl rfl)
theorem dX4_asset_49 : decode cX4_asset 49 = .ok (.iload_n 1, 1) := dk_27 (dk_at dksX4_asset_2 3 rfl rfl)
theorem dX4_asset_50 : decode cX4_asset 50 = .ok (.iastore, 1) := dk_79 (dk_at dksX4_asset_2 4 rfl rfl)
theorem dX4_asset_51 : decode cX4_asset 51 = .ok (.aload_n 0, 1) := dk_42 (dk_at dksX4_asset_2 5 rfl rfl)
theorem dX4_asset_52 : decode cX4_asset 52 = .ok (.getfield 7, 3) := dk_180 0 7 (dk_at dksX4_asset_2 6 rfl rfl)
theorem dX4_asset_55 : decode cX4_asset 55 = .ok (.bipush 6, 2) := dk_16 6 (dk_at dksX4_asset_2 9 rfl rfl)
theorem dX4_asset_57 : decode cX4_asset 57 = .ok (.aload_n 0, 1) := dk_42 (dk_at dksX4_asset_2 11 rfl rfl)
theorem dX4_asset_58 : decode cX4_asset 58 = .ok (.getfield 7, 3) := dk_180 0 7 (dk_at dksX4_asset_2 12 rfl rfl)
theorem dX4_asset_61 : decode cX4_asset 61 = .ok (.iconst 0, 1) := dk_3 (dk_at dksX4_asset_2 15 rfl rfl)
theorem dX4_asset_62 : decode cX4_asset 62 = .ok (.iaload, 1) := dk_46 (dk_at dksX4_asset_2 16 rfl rfl)
theorem dX4_asset_63 : decode cX4_asset 63 = .ok (.iadd, 1) := dk_96 (dk_at dksX4_asset_2 17 rfl rfl)
theorem dX4_asset_64 : decode cX4_asset 64 = .ok (.iload_n 2, 1) := dk_28 (dk_at dksX4_asset_2 18 rfl rfl)
theorem dX4_asset_65 : decode cX4_asset 65 = .ok (.iastore, 1) := dk_79 (dk_at dksX4_asset_2 19 rfl rfl)
theorem dX4_asset_66 : decode cX4_asset 66 = .ok (.aload_n 0, 1) := dk_42 (dk_at dksX4_asset_2 20 rfl rfl)
theorem dX4_asset_67 : decode cX4_asset 67 = .ok (.getfield 7, 3) := dk_180 0 7 (dk_at dksX4_asset_2 21 rfl rfl)
theorem dX4_asset_70 : decode cX4_asset 70 = .ok (.iconst 0, 1) := dk_3 (dk_at dksX4_asset_3 0 rfl rfl)
theorem dX4_asset_71 : decode cX4_asset 71 = .ok (.dup2, 1) := dk_92 (dk_at dksX4_asset_3 1 rfl rfl)
theorem dX4_asset_72 : decode cX4_asset 72 = .ok (.iaload, 1) := dk_46 (dk_at dksX4_asset_3 2 rfl rfl)
theorem dX4_asset_73 : decode cX4_asset 73 = .ok (.iconst 1, 1) := dk_4 (dk_at dksX4_asset_3 3 rfl rfl)
theorem dX4_asset_74 : decode cX4_asset 74 = .ok (.iadd, 1) := dk_96 (dk_at dksX4_asset_3 4 rfl rfl)
theorem dX4_asset_75 : decode cX4_asset 75 = .ok (.iastore, 1) := dk_79 (dk_at dksX4_asset_3 5 rfl rfl)
theorem dX4_asset_76 : decode cX4_asset 76 = .ok (.aload_n 0, 1) := dk_42 (dk_at dksX4_asset_3 6 rfl rfl)
theorem dX4_asset_77 : decode cX4_asset 77 = .ok (.getfield 7, 3) := dk_180 0 7 (dk_at dksX4_asset_3 7 rfl rfl)
theorem dX4_asset_80 : decode cX4_asset 80 = .ok (.iconst 0, 1) := dk_3 (dk_at dksX4_asset_3 10 rfl rfl)
theorem dX4_asset_81 : decode cX4_asset 81 = .ok (.iaload, 1) := dk_46 (dk_at dksX4_asset_3 11 rfl rfl)
theorem dX4_asset_82 : decode cX4_asset 82 = .ok (.iconst 1, 1) := dk_4 (dk_at dksX4_asset_3 12 rfl rfl)
theorem dX4_asset_83 : decode cX4_asset 83 = .ok (.isub, 1) := dk_100 (dk_at dksX4_asset_3 13 rfl rfl)
theorem dX4_asset_84 : decode cX4_asset 84 = .ok (.ireturn, 1) := dk_172 (dk_at dksX4_asset_3 14 rfl rfl)
def dkwX4_remembers_4 : List UInt8 := [181, 0, 152, 177]
abbrev dktX4_remembers_4 : List UInt8 := dkwX4_remembers_4 ++ []
def dkwX4_remembers_3 : List UInt8 := [27, 96, 42, 180, 0, 7, 27, 46, 79, 132, 1, 1, 167, 255, 225, 42, 89, 180, 0, 152, 4, 96]
abbrev dktX4_remembers_3 : List UInt8 := dkwX4_remembers_3 ++ dktX4_remembers_4
def dkwX4_remembers_2 : List UInt8 := [181, 0, 152, 3, 60, 27, 17, 0, 139, 162, 0, 30, 42, 180, 0, 16, 17, 0, 139, 42, 180, 0, 152, 104]
abbrev dktX4_remembers_2 : List UInt8 := dkwX4_remembers_2 ++ dktX4_remembers_3
def dkwX4_remembers_1 : List UInt8 := [180, 0, 16, 27, 17, 0, 139, 96, 46, 79, 132, 1, 1, 167, 255, 230, 42, 89, 180, 0, 152, 4, 100]
abbrev dktX4_remembers_1 : List UInt8 := dkwX4_remembers_1 ++ dktX4_remembers_2
def dkwX4_remembers_0 : List UInt8 := [42, 180, 0, 152, 16, 12, 160, 0, 44, 3, 60, 27, 17, 5, 249, 162, 0, 25, 42, 180, 0, 16, 27, 42]
abbrev dktX4_remembers_0 : List UInt8 := dkwX4_remembers_0 ++ dktX4_remembers_1
theorem dksX4_remembers_0 : cX4_remembers.data.toList.drop 0 = dktX4_remembers_0 := by decide +kernel
theorem dksX4_remembers_1 : cX4_remembers.data.toList.drop 24 = dktX4_remembers_1 := dk_seg dksX4_remembers_0 24 rfl rfl
theorem dksX4_remembers_2 : cX4_remembers.data.toList.drop 47 = dktX4_remembers_2 := dk_seg dksX4_remembers_1 23 rfl rfl
theorem dksX4_remembers_3 : cX4_remembers.data.toList.drop 71 = dktX4_remembers_3 := dk_seg dksX4_remembers_2 24 rfl rfl
theorem dksX4_remembers_4 : cX4_remembers.data.toList.drop 93 = dktX4_remembers_4 := dk_seg dksX4_remembers_3 22 rfl rfl
theorem dX4_remembers_0 : decode cX4_remembers 0 = .ok (.aload_n 0, 1) := dk_42 (dk_at dksX4_remembers_0 0 rfl rfl)
theorem dX4_remembers_1 : decode cX4_remembers 1 = .ok (.getfield 152, 3) := dk_180 0 152 (dk_at dksX4_remembers_0 1 rfl rfl)
theorem dX4_remembers_4 : decode cX4_remembers 4 = .ok (.bipush 12, 2) := dk_16 12 (dk_at dksX4_remembers_0 4 rfl rfl)
theorem dX4_remembers_6 : decode cX4_remembers 6 = .ok (.if_icmp .ne 44, 3) := dk_160 0 44 (dk_at dksX4_remembers_0 6 rfl rfl)
theorem dX4_remembers_9 : decode cX4_remembers 9 = .ok (.iconst 0, 1) := dk_3 (dk_at dksX4_remembers_0 9 rfl rfl)
theorem dX4_remembers_10 : decode cX4_remembers 10 = .ok (.istore_n 1, 1) := dk_60 (dk_at dksX4_remembers_0 10 rfl rfl)
theorem dX4_remembers_11 : decode cX4_remembers 11 = .ok (.iload_n 1, 1) := dk_27 (dk_at dksX4_remembers_0 11 rfl rfl)
theorem dX4_remembers_12 : decode cX4_remembers 12 = .ok (.sipush 1529, 3) := dk_17 5 249 (dk_at dksX4_remembers_0 12 rfl rfl)
theorem dX4_remembers_15 : decode cX4_remembers 15 = .ok (.if_icmp .ge 25, 3) := dk_162 0 25 (dk_at dksX4_remembers_0 15 rfl rfl)
theorem dX4_remembers_18 : decode cX4_remembers 18 = .ok (.aload_n 0, 1) := dk_42 (dk_at dksX4_remembers_0 18 rfl rfl)
theorem dX4_remembers_19 : decode cX4_remembers 19 = .ok (.getfield 16, 3) := dk_180 0 16 (dk_at dksX4_remembers_0 19 rfl rfl)
theorem dX4_remembers_22 : decode cX4_remembers 22 = .ok (.iload_n 1, 1) := dk_27 (dk_at dksX4_remembers_0 22 rfl rfl)
theorem dX4_remembers_23 : decode cX4_remembers 23 = .ok (.aload_n 0, 1) := dk_42 (dk_at dksX4_remembers_0 23 rfl rfl)
theorem dX4_remembers_24 : decode cX4_remembers 24 = .ok (.getfield 16, 3) := dk_180 0 16 (dk_at dksX4_remembers_1 0 rfl rfl)
theorem dX4_remembers_27 : decode cX4_remembers 27 = .ok (.iload_n 1, 1) := dk_27 (dk_at dksX4_remembers_1 3 rfl rfl)
theorem dX4_remembers_28 : decode cX4_remembers 28 = .ok (.sipush 139, 3) := dk_17 0 139 (dk_at dksX4_remembers_1 4 rfl rfl)
theorem dX4_remembers_31 : decode cX4_remembers 31 = .ok (.iadd, 1) := dk_96 (dk_at dksX4_remembers_1 7 rfl rfl)
theorem dX4_remembers_32 : decode cX4_remembers 32 = .ok (.iaload, 1) := dk_46 (dk_at dksX4_remembers_1 8 rfl rfl)
theorem dX4_remembers_33 : decode cX4_remembers 33 = .ok (.iastore, 1) := dk_79 (dk_at dksX4_remembers_1 9 rfl rfl)
theorem dX4_remembers_34 : decode cX4_remembers 34 = .ok (.iinc 1 1, 3) := dk_132 1 1 (dk_at dksX4_remembers_1 10 rfl rfl)
theorem dX4_remembers_37 : decode cX4_remembers 37 = .ok (.goto (-26), 3) := dk_167 255 230 (dk_at dksX4_remembers_1 13 rfl rfl)
theorem dX4_remembers_40 : decode cX4_remembers 40 = .ok (.aload_n 0, 1) := dk_42 (dk_at dksX4_remembers_1 16 rfl rfl)
theorem dX4_remembers_41 : decode cX4_remembers 41 = .ok (.dup, 1) := dk_89 (dk_at dksX4_remembers_1 17 rfl rfl)
theorem dX4_remembers_42 : decode cX4_remembers 42 = .ok (.getfield 152, 3) := dk_180 0 152 (dk_at dksX4_remembers_1 18 rfl rfl)
theorem dX4_remembers_45 : decode cX4_remembers 45 = .ok (.iconst 1, 1) := dk_4 (dk_at dksX4_remembers_1 21 rfl rfl)
theorem dX4_remembers_46 : decode cX4_remembers 46 = .ok (.isub, 1) := dk_100 (dk_at dksX4_remembers_1 22 rfl rfl)
theorem dX4_remembers_47 : decode cX4_remembers 47 = .ok (.putfield 152, 3) := dk_181 0 152 (dk_at dksX4_remembers_2 0 rfl rfl)
theorem dX4_remembers_50 : decode cX4_remembers 50 = .ok (.iconst 0, 1) := dk_3 (dk_at dksX4_remembers_2 3 rfl rfl)
theorem dX4_remembers_51 : decode cX4_remembers 51 = .ok (.istore_n 1, 1) := dk_60 (dk_at dksX4_remembers_2 4 rfl rfl)
theorem dX4_remembers_52 : decode cX4_remembers 52 = .ok (.iload_n 1, 1) := dk_27 (dk_at dksX4_remembers_2 5 rfl rfl)
theorem dX4_remembers_53 : decode cX4_remembers 53 = .ok (.sipush 139, 3) := dk_17 0 139 (dk_at dksX4_remembers_2 6 rfl rfl)
theorem dX4_remembers_56 : decode cX4_remembers 56 = .ok (.if_icmp .ge 30, 3) := dk_162 0 30 (dk_at dksX4_remembers_2 9 rfl rfl)
theorem dX4_remembers_59 : decode cX4_remembers 59 = .ok (.aload_n 0, 1) := dk_42 (dk_at dksX4_remembers_2 12 rfl rfl)
theorem dX4_remembers_60 : decode cX4_remembers 60 = .ok (.getfield 16, 3) := dk_180 0 16 (dk_at dksX4_remembers_2 13 rfl rfl)
theorem dX4_remembers_63 : decode cX4_remembers 63 = .ok (.sipush 139, 3) := dk_17 0 139 (dk_at dksX4_remembers_2 16 rfl rfl)
theorem dX4_remembers_66 : decode cX4_remembers 66 = .ok (.aload_n 0, 1) := dk_42 (dk_at dksX4_remembers_2 19 rfl rfl)
theorem dX4_remembers_67 : decode cX4_remembers 67 = .ok (.getfield 152, 3) := dk_180 0 152 (dk_at dksX4_remembers_2 20 rfl rfl)
theorem dX4_remembers_70 : decode cX4_remembers 70 = .ok (.imul, 1) := dk_104 (dk_at dksX4_remembers_2 23 rfl rfl)
theorem dX4_remembers_71 : decode cX4_remembers 71 = .ok (.iload_n 1, 1) := dk_27 (dk_at dksX4_remembers_3 0 rfl rfl)
theorem dX4_remembers_72 : decode cX4_remembers 72 = .ok (.iadd, 1) := dk_96 (dk_at dksX4_remembers_3 1 rfl rfl)
theorem dX4_remembers_73 : decode cX4_remembers 73 = .ok (.aload_n 0, 1) := dk_42 (dk_at dksX4_remembers_3 2 rfl rfl)
theorem dX4_remembers_74 : decode cX4_remembers 74 = .ok (.getfield 7, 3) := dk_180 0 7 (dk_at dksX4_remembers_3 3 rfl rfl)
theorem dX4_remembers_77 : decode cX4_remembers 77 = .ok (.iload_n 1, 1) := dk_27 (dk_at dksX4_remembers_3 6 rfl rfl)
theorem dX4_remembers_78 : decode cX4_remembers 78 = .ok (.iaload, 1) := dk_46 (dk_at dksX4_remembers_3 7 rfl rfl)
theorem dX4_remembers_79 : decode cX4_remembers 79 = .ok (.iastore, 1) := dk_79 (dk_at dksX4_remembers_3 8 rfl rfl)
theorem dX4_remembers_80 : decode cX4_remembers 80 = .ok (.iinc 1 1, 3) := dk_132 1 1 (dk_at dksX4_remembers_3 9 rfl rfl)
theorem dX4_remembers_83 : decode cX4_remembers 83 = .ok (.goto (-31), 3) := dk_167 255 225 (dk_at dksX4_remembers_3 12 rfl rfl)
theorem dX4_remembers_86 : decode cX4_remembers 86 = .ok (.aload_n 0, 1) := dk_42 (dk_at dksX4_remembers_3 15 rfl rfl)
theorem dX4_remembers_87 : decode cX4_remembers 87 = .ok (.dup, 1) := dk_89 (dk_at dksX4_remembers_3 16 rfl rfl)
theorem dX4_remembers_88 : decode cX4_remembers 88 = .ok (.getfield 152, 3) := dk_180 0 152 (dk_at dksX4_remembers_3 17 rfl rfl)
theorem dX4_remembers_91 : decode cX4_remembers 91 = .ok (.iconst 1, 1) := dk_4 (dk_at dksX4_remembers_3 20 rfl rfl)
theorem dX4_remembers_92 : decode cX4_remembers 92 = .ok (.iadd, 1) := dk_96 (dk_at dksX4_remembers_3 21 rfl rfl)
theorem dX4_remembers_93 : decode cX4_remembers 93 = .ok (.putfield 152, 3) := dk_181 0 152 (dk_at dksX4_remembers_4 0 rfl rfl)
theorem dX4_remembers_96 : decode cX4_remembers 96 = .ok (.return_, 1) := dk_177 (dk_at dksX4_remembers_4 3 rfl rfl)
def dkwX4_house_4 : List UInt8 := [4, 100, 172]
abbrev dktX4_house_4 : List UInt8 := dkwX4_house_4 ++ []
def dkwX4_house_3 : List UInt8 := [180, 0, 7, 29, 6, 96, 4, 79, 42, 180, 0, 7, 4, 92, 46, 4, 96, 79, 42, 180, 0, 7, 4, 46]
abbrev dktX4_house_3 : List UInt8 := dkwX4_house_3 ++ dktX4_house_4
def dkwX4_house_2 : List UInt8 := [46, 104, 96, 62, 42, 180, 0, 7, 29, 3, 96, 27, 79, 42, 180, 0, 7, 29, 4, 96, 28, 79, 42]
abbrev dktX4_house_2 : List UInt8 := dkwX4_house_2 ++ dktX4_house_3
def dkwX4_house_1 : List UInt8 := [180, 0, 7, 4, 46, 16, 6, 160, 0, 5, 2, 172, 42, 182, 0, 234, 16, 10, 8, 42, 180, 0, 7, 4]
abbrev dktX4_house_1 : List UInt8 := dkwX4_house_1 ++ dktX4_house_2
def dkwX4_house_0 : List UInt8 := [27, 3, 17, 39, 15, 184, 0, 68, 153, 0, 25, 28, 3, 17, 39, 15, 184, 0, 68, 153, 0, 14, 42]
abbrev dktX4_house_0 : List UInt8 := dkwX4_house_0 ++ dktX4_house_1
theorem dksX4_house_0 : cX4_house.data.toList.drop 0 = dktX4_house_0 := by decide +kernel
theorem dksX4_house_1 : cX4_house.data.toList.drop 23 = dktX4_house_1 := dk_seg dksX4_house_0 23 rfl rfl
theorem dksX4_house_2 : cX4_house.data.toList.drop 47 = dktX4_house_2 := dk_seg dksX4_house_1 24 rfl rfl
theorem dksX4_house_3 : cX4_house.data.toList.drop 70 = dktX4_house_3 := dk_seg dksX4_house_2 23 rfl rfl
theorem dksX4_house_4 : cX4_house.data.toList.drop 94 = dktX4_house_4 := dk_seg dksX4_house_3 24 rfl rfl
theorem dX4_house_0 : decode cX4_house 0 = .ok (.iload_n 1, 1) := dk_27 (dk_at dksX4_house_0 0 rfl rfl)
theorem dX4_house_1 : decode cX4_house 1 = .ok (.iconst 0, 1) := dk_3 (dk_at dksX4_house_0 1 rfl rfl)
theorem dX4_house_2 : decode cX4_house 2 = .ok (.sipush 9999, 3) := dk_17 39 15 (dk_at dksX4_house_0 2 rfl rfl)
theorem dX4_house_5 : decode cX4_house 5 = .ok (.invokestatic 68, 3) := dk_184 0 68 (dk_at dksX4_house_0 5 rfl rfl)
theorem dX4_house_8 : decode cX4_house 8 = .ok (.ifCond .eq 25, 3) := dk_153 0 25 (dk_at dksX4_house_0 8 rfl rfl)
theorem dX4_house_11 : decode cX4_house 11 = .ok (.iload_n 2, 1) := dk_28 (dk_at dksX4_house_0 11 rfl rfl)
theorem dX4_house_12 : decode cX4_house 12 = .ok (.iconst 0, 1) := dk_3 (dk_at dksX4_house_0 12 rfl rfl)
theorem dX4_house_13 : decode cX4_house 13 = .ok (.sipush 9999, 3) := dk_17 39 15 (dk_at dksX4_house_0 13 rfl rfl)
theorem dX4_house_16 : decode cX4_house 16 = .ok (.invokestatic 68, 3) := dk_184 0 68 (dk_at dksX4_house_0 16 rfl rfl)
theorem dX4_house_19 : decode cX4_house 19 = .ok (.ifCond .eq 14, 3) := dk_153 0 14 (dk_at dksX4_house_0 19 rfl rfl)
theorem dX4_house_22 : decode cX4_house 22 = .ok (.aload_n 0, 1) := dk_42 (dk_at dksX4_house_0 22 rfl rfl)
theorem dX4_house_23 : decode cX4_house 23 = .ok (.getfield 7, 3) := dk_180 0 7 (dk_at dksX4_house_1 0 rfl rfl)
theorem dX4_house_26 : decode cX4_house 26 = .ok (.iconst 1, 1) := dk_4 (dk_at dksX4_house_1 3 rfl rfl)
theorem dX4_house_27 : decode cX4_house 27 = .ok (.iaload, 1) := dk_46 (dk_at dksX4_house_1 4 rfl rfl)
theorem dX4_house_28 : decode cX4_house 28 = .ok (.bipush 6, 2) := dk_16 6 (dk_at dksX4_house_1 5 rfl rfl)
theorem dX4_house_30 : decode cX4_house 30 = .ok (.if_icmp .ne 5, 3) := dk_160 0 5 (dk_at dksX4_house_1 7 rfl rfl)
theorem dX4_house_33 : decode cX4_house 33 = .ok (.iconst (-1), 1) := dk_2 (dk_at dksX4_house_1 10 rfl rfl)
theorem dX4_house_34 : decode cX4_house 34 = .ok (.ireturn, 1) := dk_172 (dk_at dksX4_house_1 11 rfl rfl)
theorem dX4_house_35 : decode cX4_house 35 = .ok (.aload_n 0, 1) := dk_42 (dk_at dksX4_house_1 12 rfl rfl)
theorem dX4_house_36 : decode cX4_house 36 = .ok (.invokevirtual 234, 3) := dk_182 0 234 (dk_at dksX4_house_1 13 rfl rfl)
theorem dX4_house_39 : decode cX4_house 39 = .ok (.bipush 10, 2) := dk_16 10 (dk_at dksX4_house_1 16 rfl rfl)
theorem dX4_house_41 : decode cX4_house 41 = .ok (.iconst 5, 1) := dk_8 (dk_at dksX4_house_1 18 rfl rfl)
theorem dX4_house_42 : decode cX4_house 42 = .ok (.aload_n 0, 1) := dk_42 (dk_at dksX4_house_1 19 rfl rfl)
theorem dX4_house_43 : decode cX4_house 43 = .ok (.getfield 7, 3) := dk_180 0 7 (dk_at dksX4_house_1 20 rfl rfl)
theorem dX4_house_46 : decode cX4_house 46 = .ok (.iconst 1, 1) := dk_4 (dk_at dksX4_house_1 23 rfl rfl)
theorem dX4_house_47 : decode cX4_house 47 = .ok (.iaload, 1) := dk_46 (dk_at dksX4_house_2 0 rfl rfl)
theorem dX4_house_48 : decode cX4_house 48 = .ok (.imul, 1) := dk_104 (dk_at dksX4_house_2 1 rfl rfl)
theorem dX4_house_49 : decode cX4_house 49 = .ok (.iadd, 1) := dk_96 (dk_at dksX4_house_2 2 rfl rfl)
theorem dX4_house_50 : decode cX4_house 50 = .ok (.istore_n 3, 1) := dk_62 (dk_at dksX4_house_2 3 rfl rfl)
theorem dX4_house_51 : decode cX4_house 51 = .ok (.aload_n 0, 1) := dk_42 (dk_at dksX4_house_2 4 rfl rfl)
theorem dX4_house_52 : decode cX4_house 52 = .ok (.getfield 7, 3) := dk_180 0 7 (dk_at dksX4_house_2 5 rfl rfl)
theorem dX4_house_55 : decode cX4_house 55 = .ok (.iload_n 3, 1) := dk_29 (dk_at dksX4_house_2 8 rfl rfl)
theorem dX4_house_56 : decode cX4_house 56 = .ok (.iconst 0, 1) := dk_3 (dk_at dksX4_house_2 9 rfl rfl)
theorem dX4_house_57 : decode cX4_house 57 = .ok (.iadd, 1) := dk_96 (dk_at dksX4_house_2 10 rfl rfl)
theorem dX4_house_58 : decode cX4_house 58 = .ok (.iload_n 1, 1) := dk_27 (dk_at dksX4_house_2 11 rfl rfl)
theorem dX4_house_59 : decode cX4_house 59 = .ok (.iastore, 1) := dk_79 (dk_at dksX4_house_2 12 rfl rfl)
theorem dX4_house_60 : decode cX4_house 60 = .ok (.aload_n 0, 1) := dk_42 (dk_at dksX4_house_2 13 rfl rfl)
theorem dX4_house_61 : decode cX4_house 61 = .ok (.getfield 7, 3) := dk_180 0 7 (dk_at dksX4_house_2 14 rfl rfl)
theorem dX4_house_64 : decode cX4_house 64 = .ok (.iload_n 3, 1) := dk_29 (dk_at dksX4_house_2 17 rfl rfl)
theorem dX4_house_65 : decode cX4_house 65 = .ok (.iconst 1, 1) := dk_4 (dk_at dksX4_house_2 18 rfl rfl)
theorem dX4_house_66 : decode cX4_house 66 = .ok (.iadd, 1) := dk_96 (dk_at dksX4_house_2 19 rfl rfl)
theorem dX4_house_67 : decode cX4_house 67 = .ok (.iload_n 2, 1) := dk_28 (dk_at dksX4_house_2 20 rfl rfl)
theorem dX4_house_68 : decode cX4_house 68 = .ok (.iastore, 1) := dk_79 (dk_at dksX4_house_2 21 rfl rfl)
theorem dX4_house_69 : decode cX4_house 69 = .ok (.aload_n 0, 1) := dk_42 (dk_at dksX4_house_2 22 rfl rfl)
theorem dX4_house_70 : decode cX4_house 70 = .ok (.getfield 7, 3) := dk_180 0 7 (dk_at dksX4_house_3 0 rfl rfl)
theorem dX4_house_73 : decode cX4_house 73 = .ok (.iload_n 3, 1) := dk_29 (dk_at dksX4_house_3 3 rfl rfl)
theorem dX4_house_74 : decode cX4_house 74 = .ok (.iconst 3, 1) := dk_6 (dk_at dksX4_house_3 4 rfl rfl)
theorem dX4_house_75 : decode cX4_house 75 = .ok (.iadd, 1) := dk_96 (dk_at dksX4_house_3 5 rfl rfl)
theorem dX4_house_76 : decode cX4_house 76 = .ok (.iconst 1, 1) := dk_4 (dk_at dksX4_house_3 6 rfl rfl)
theorem dX4_house_77 : decode cX4_house 77 = .ok (.iastore, 1) := dk_79 (dk_at dksX4_house_3 7 rfl rfl)
theorem dX4_house_78 : decode cX4_house 78 = .ok (.aload_n 0, 1) := dk_42 (dk_at dksX4_house_3 8 rfl rfl)
theorem dX4_house_79 : decode cX4_house 79 = .ok (.getfield 7, 3) := dk_180 0 7 (dk_at dksX4_house_3 9 rfl rfl)
theorem dX4_house_82 : decode cX4_house 82 = .ok (.iconst 1, 1) := dk_4 (dk_at dksX4_house_3 12 rfl rfl)
theorem dX4_house_83 : decode cX4_house 83 = .ok (.dup2, 1) := dk_92 (dk_at dksX4_house_3 13 rfl rfl)
theorem dX4_house_84 : decode cX4_house 84 = .ok (.iaload, 1) := dk_46 (dk_at dksX4_house_3 14 rfl rfl)
theorem dX4_house_85 : decode cX4_house 85 = .ok (.iconst 1, 1) := dk_4 (dk_at dksX4_house_3 15 rfl rfl)
theorem dX4_house_86 : decode cX4_house 86 = .ok (.iadd, 1) := dk_96 (dk_at dksX4_house_3 16 rfl rfl)
theorem dX4_house_87 : decode cX4_house 87 = .ok (.iastore, 1) := dk_79 (dk_at dksX4_house_3 17 rfl rfl)
theorem dX4_house_88 : decode cX4_house 88 = .ok (.aload_n 0, 1) := dk_42 (dk_at dksX4_house_3 18 rfl rfl)
theorem dX4_house_89 : decode cX4_house 89 = .ok (.getfield 7, 3) := dk_180 0 7 (dk_at dksX4_house_3 19 rfl rfl)
theorem dX4_house_92 : decode cX4_house 92 = .ok (.iconst 1, 1) := dk_4 (dk_at dksX4_house_3 22 rfl rfl)
theorem dX4_house_93 : decode cX4_house 93 = .ok (.iaload, 1) := dk_46 (dk_at dksX4_house_3 23 rfl rfl)
theorem dX4_house_94 : decode cX4_house 94 = .ok (.iconst 1, 1) := dk_4 (dk_at dksX4_house_4 0 rfl rfl)
theorem dX4_house_95 : decode cX4_house 95 = .ok (.isub, 1) := dk_100 (dk_at dksX4_house_4 1 rfl rfl)
theorem dX4_house_96 : decode cX4_house 96 = .ok (.ireturn, 1) := dk_172 (dk_at dksX4_house_4 2 rfl rfl)
def dkwX4_set_3 : List UInt8 := [8, 27, 104, 96, 28, 96, 29, 182, 0, 240, 172]
abbrev dktX4_set_3 : List UInt8 := dkwX4_set_3 ++ []
def dkwX4_set_2 : List UInt8 := [17, 39, 15, 184, 0, 68, 153, 0, 13, 42, 27, 28, 182, 0, 175, 29, 160, 0, 5, 2, 172, 42, 16, 10]
abbrev dktX4_set_2 : List UInt8 := dkwX4_set_2 ++ dktX4_set_3
def dkwX4_set_1 : List UInt8 := [167, 0, 4, 3, 28, 6, 160, 0, 8, 16, 99, 167, 0, 15, 28, 7, 160, 0, 7, 4, 167, 0, 6]
abbrev dktX4_set_1 : List UInt8 := dkwX4_set_1 ++ dktX4_set_2
def dkwX4_set_0 : List UInt8 := [42, 27, 182, 0, 237, 153, 0, 61, 28, 3, 7, 184, 0, 68, 153, 0, 52, 29, 28, 6, 160, 0, 7, 4]
abbrev dktX4_set_0 : List UInt8 := dkwX4_set_0 ++ dktX4_set_1
theorem dksX4_set_0 : cX4_set.data.toList.drop 0 = dktX4_set_0 := by decide +kernel
theorem dksX4_set_1 : cX4_set.data.toList.drop 24 = dktX4_set_1 := dk_seg dksX4_set_0 24 rfl rfl
theorem dksX4_set_2 : cX4_set.data.toList.drop 47 = dktX4_set_2 := dk_seg dksX4_set_1 23 rfl rfl
theorem dksX4_set_3 : cX4_set.data.toList.drop 71 = dktX4_set_3 := dk_seg dksX4_set_2 24 rfl rfl
theorem dX4_set_0 : decode cX4_set 0 = .ok (.aload_n 0, 1) := dk_42 (dk_at dksX4_set_0 0 rfl rfl)
theorem dX4_set_1 : decode cX4_set 1 = .ok (.iload_n 1, 1) := dk_27 (dk_at dksX4_set_0 1 rfl rfl)
theorem dX4_set_2 : decode cX4_set 2 = .ok (.invokevirtual 237, 3) := dk_182 0 237 (dk_at dksX4_set_0 2 rfl rfl)
theorem dX4_set_5 : decode cX4_set 5 = .ok (.ifCond .eq 61, 3) := dk_153 0 61 (dk_at dksX4_set_0 5 rfl rfl)
theorem dX4_set_8 : decode cX4_set 8 = .ok (.iload_n 2, 1) := dk_28 (dk_at dksX4_set_0 8 rfl rfl)
theorem dX4_set_9 : decode cX4_set 9 = .ok (.iconst 0, 1) := dk_3 (dk_at dksX4_set_0 9 rfl rfl)
theorem dX4_set_10 : decode cX4_set 10 = .ok (.iconst 4, 1) := dk_7 (dk_at dksX4_set_0 10 rfl rfl)
theorem dX4_set_11 : decode cX4_set 11 = .ok (.invokestatic 68, 3) := dk_184 0 68 (dk_at dksX4_set_0 11 rfl rfl)
theorem dX4_set_14 : decode cX4_set 14 = .ok (.ifCond .eq 52, 3) := dk_153 0 52 (dk_at dksX4_set_0 14 rfl rfl)
theorem dX4_set_17 : decode cX4_set 17 = .ok (.iload_n 3, 1) := dk_29 (dk_at dksX4_set_0 17 rfl rfl)
theorem dX4_set_18 : decode cX4_set 18 = .ok (.iload_n 2, 1) := dk_28 (dk_at dksX4_set_0 18 rfl rfl)
theorem dX4_set_19 : decode cX4_set 19 = .ok (.iconst 3, 1) := dk_6 (dk_at dksX4_set_0 19 rfl rfl)
theorem dX4_set_20 : decode cX4_set 20 = .ok (.if_icmp .ne 7, 3) := dk_160 0 7 (dk_at dksX4_set_0 20 rfl rfl)
theorem dX4_set_23 : decode cX4_set 23 = .ok (.iconst 1, 1) := dk_4 (dk_at dksX4_set_0 23 rfl rfl)
theorem dX4_set_24 : decode cX4_set 24 = .ok (.goto 4, 3) := dk_167 0 4 (dk_at dksX4_set_1 0 rfl rfl)
theorem dX4_set_27 : decode cX4_set 27 = .ok (.iconst 0, 1) := dk_3 (dk_at dksX4_set_1 3 rfl rfl)
theorem dX4_set_28 : decode cX4_set 28 = .ok (.iload_n 2, 1) := dk_28 (dk_at dksX4_set_1 4 rfl rfl)
theorem dX4_set_29 : decode cX4_set 29 = .ok (.iconst 3, 1) := dk_6 (dk_at dksX4_set_1 5 rfl rfl)
theorem dX4_set_30 : decode cX4_set 30 = .ok (.if_icmp .ne 8, 3) := dk_160 0 8 (dk_at dksX4_set_1 6 rfl rfl)
theorem dX4_set_33 : decode cX4_set 33 = .ok (.bipush 99, 2) := dk_16 99 (dk_at dksX4_set_1 9 rfl rfl)
theorem dX4_set_35 : decode cX4_set 35 = .ok (.goto 15, 3) := dk_167 0 15 (dk_at dksX4_set_1 11 rfl rfl)
theorem dX4_set_38 : decode cX4_set 38 = .ok (.iload_n 2, 1) := dk_28 (dk_at dksX4_set_1 14 rfl rfl)
theorem dX4_set_39 : decode cX4_set 39 = .ok (.iconst 4, 1) := dk_7 (dk_at dksX4_set_1 15 rfl rfl)
theorem dX4_set_40 : decode cX4_set 40 = .ok (.if_icmp .ne 7, 3) := dk_160 0 7 (dk_at dksX4_set_1 16 rfl rfl)
theorem dX4_set_43 : decode cX4_set 43 = .ok (.iconst 1, 1) := dk_4 (dk_at dksX4_set_1 19 rfl rfl)
theorem dX4_set_44 : decode cX4_set 44 = .ok (.goto 6, 3) := dk_167 0 6 (dk_at dksX4_set_1 20 rfl rfl)
theorem dX4_set_47 : decode cX4_set 47 = .ok (.sipush 9999, 3) := dk_17 39 15 (dk_at dksX4_set_2 0 rfl rfl)
theorem dX4_set_50 : decode cX4_set 50 = .ok (.invokestatic 68, 3) := dk_184 0 68 (dk_at dksX4_set_2 3 rfl rfl)
theorem dX4_set_53 : decode cX4_set 53 = .ok (.ifCond .eq 13, 3) := dk_153 0 13 (dk_at dksX4_set_2 6 rfl rfl)
theorem dX4_set_56 : decode cX4_set 56 = .ok (.aload_n 0, 1) := dk_42 (dk_at dksX4_set_2 9 rfl rfl)
theorem dX4_set_57 : decode cX4_set 57 = .ok (.iload_n 1, 1) := dk_27 (dk_at dksX4_set_2 10 rfl rfl)
theorem dX4_set_58 : decode cX4_set 58 = .ok (.iload_n 2, 1) := dk_28 (dk_at dksX4_set_2 11 rfl rfl)
theorem dX4_set_59 : decode cX4_set 59 = .ok (.invokevirtual 175, 3) := dk_182 0 175 (dk_at dksX4_set_2 12 rfl rfl)
theorem dX4_set_62 : decode cX4_set 62 = .ok (.iload_n 3, 1) := dk_29 (dk_at dksX4_set_2 15 rfl rfl)
theorem dX4_set_63 : decode cX4_set 63 = .ok (.if_icmp .ne 5, 3) := dk_160 0 5 (dk_at dksX4_set_2 16 rfl rfl)
theorem dX4_set_66 : decode cX4_set 66 = .ok (.iconst (-1), 1) := dk_2 (dk_at dksX4_set_2 19 rfl rfl)
theorem dX4_set_67 : decode cX4_set 67 = .ok (.ireturn, 1) := dk_172 (dk_at dksX4_set_2 20 rfl rfl)
theorem dX4_set_68 : decode cX4_set 68 = .ok (.aload_n 0, 1) := dk_42 (dk_at dksX4_set_2 21 rfl rfl)
theorem dX4_set_69 : decode cX4_set 69 = .ok (.bipush 10, 2) := dk_16 10 (dk_at dksX4_set_2 22 rfl rfl)
theorem dX4_set_71 : decode cX4_set 71 = .ok (.iconst 5, 1) := dk_8 (dk_at dksX4_set_3 0 rfl rfl)
theorem dX4_set_72 : decode cX4_set 72 = .ok (.iload_n 1, 1) := dk_27 (dk_at dksX4_set_3 1 rfl rfl)
theorem dX4_set_73 : decode cX4_set 73 = .ok (.imul, 1) := dk_104 (dk_at dksX4_set_3 2 rfl rfl)
theorem dX4_set_74 : decode cX4_set 74 = .ok (.iadd, 1) := dk_96 (dk_at dksX4_set_3 3 rfl rfl)
theorem dX4_set_75 : decode cX4_set 75 = .ok (.iload_n 2, 1) := dk_28 (dk_at dksX4_set_3 4 rfl rfl)
theorem dX4_set_76 : decode cX4_set 76 = .ok (.iadd, 1) := dk_96 (dk_at dksX4_set_3 5 rfl rfl)
theorem dX4_set_77 : decode cX4_set 77 = .ok (.iload_n 3, 1) := dk_29 (dk_at dksX4_set_3 6 rfl rfl)
theorem dX4_set_78 : decode cX4_set 78 = .ok (.invokevirtual 240, 3) := dk_182 0 240 (dk_at dksX4_set_3 7 rfl rfl)
theorem dX4_set_81 : decode cX4_set 81 = .ok (.ireturn, 1) := dk_172 (dk_at dksX4_set_3 10 rfl rfl)
def dkwX4_isHouse_0 : List UInt8 := [27, 3, 42, 180, 0, 7, 4, 46, 4, 100, 184, 0, 68, 172]
abbrev dktX4_isHouse_0 : List UInt8 := dkwX4_isHouse_0 ++ []
theorem dksX4_isHouse_0 : cX4_isHouse.data.toList.drop 0 = dktX4_isHouse_0 := by decide +kernel
theorem dX4_isHouse_0 : decode cX4_isHouse 0 = .ok (.iload_n 1, 1) := dk_27 (dk_at dksX4_isHouse_0 0 rfl rfl)
theorem dX4_isHouse_1 : decode cX4_isHouse 1 = .ok (.iconst 0, 1) := dk_3 (dk_at dksX4_isHouse_0 1 rfl rfl)
theorem dX4_isHouse_2 : decode cX4_isHouse 2 = .ok (.aload_n 0, 1) := dk_42 (dk_at dksX4_isHouse_0 2 rfl rfl)
theorem dX4_isHouse_3 : decode cX4_isHouse 3 = .ok (.getfield 7, 3) := dk_180 0 7 (dk_at dksX4_isHouse_0 3 rfl rfl)
theorem dX4_isHouse_6 : decode cX4_isHouse 6 = .ok (.iconst 1, 1) := dk_4 (dk_at dksX4_isHouse_0 6 rfl rfl)
theorem dX4_isHouse_7 : decode cX4_isHouse 7 = .ok (.iaload, 1) := dk_46 (dk_at dksX4_isHouse_0 7 rfl rfl)
theorem dX4_isHouse_8 : decode cX4_isHouse 8 = .ok (.iconst 1, 1) := dk_4 (dk_at dksX4_isHouse_0 8 rfl rfl)
theorem dX4_isHouse_9 : decode cX4_isHouse 9 = .ok (.isub, 1) := dk_100 (dk_at dksX4_isHouse_0 9 rfl rfl)
theorem dX4_isHouse_10 : decode cX4_isHouse 10 = .ok (.invokestatic 68, 3) := dk_184 0 68 (dk_at dksX4_isHouse_0 10 rfl rfl)
theorem dX4_isHouse_13 : decode cX4_isHouse 13 = .ok (.ireturn, 1) := dk_172 (dk_at dksX4_isHouse_0 13 rfl rfl)
def dkwX4_houseOf_0 : List UInt8 := [42, 180, 0, 7, 16, 10, 8, 27, 104, 96, 28, 96, 46, 172]
abbrev dktX4_houseOf_0 : List UInt8 := dkwX4_houseOf_0 ++ []
theorem dksX4_houseOf_0 : cX4_houseOf.data.toList.drop 0 = dktX4_houseOf_0 := by decide +kernel
theorem dX4_houseOf_0 : decode cX4_houseOf 0 = .ok (.aload_n 0, 1) := dk_42 (dk_at dksX4_houseOf_0 0 rfl rfl)
theorem dX4_houseOf_1 : decode cX4_houseOf 1 = .ok (.getfield 7, 3) := dk_180 0 7 (dk_at dksX4_houseOf_0 1 rfl rfl)
theorem dX4_houseOf_4 : decode cX4_houseOf 4 = .ok (.bipush 10, 2) := dk_16 10 (dk_at dksX4_houseOf_0 4 rfl rfl)
theorem dX4_houseOf_6 : decode cX4_houseOf 6 = .ok (.iconst 5, 1) := dk_8 (dk_at dksX4_houseOf_0 6 rfl rfl)
theorem dX4_houseOf_7 : decode cX4_houseOf 7 = .ok (.iload_n 1, 1) := dk_27 (dk_at dksX4_houseOf_0 7 rfl rfl)
theorem dX4_houseOf_8 : decode cX4_houseOf 8 = .ok (.imul, 1) := dk_104 (dk_at dksX4_houseOf_0 8 rfl rfl)
theorem dX4_houseOf_9 : decode cX4_houseOf 9 = .ok (.iadd, 1) := dk_96 (dk_at dksX4_houseOf_0 9 rfl rfl)
theorem dX4_houseOf_10 : decode cX4_houseOf 10 = .ok (.iload_n 2, 1) := dk_28 (dk_at dksX4_houseOf_0 10 rfl rfl)
theorem dX4_houseOf_11 : decode cX4_houseOf 11 = .ok (.iadd, 1) := dk_96 (dk_at dksX4_houseOf_0 11 rfl rfl)
theorem dX4_houseOf_12 : decode cX4_houseOf 12 = .ok (.iaload, 1) := dk_46 (dk_at dksX4_houseOf_0 12 rfl rfl)
theorem dX4_houseOf_13 : decode cX4_houseOf 13 = .ok (.ireturn, 1) := dk_172 (dk_at dksX4_houseOf_0 13 rfl rfl)
def dkwX4_puts_0 : List UInt8 := [42, 182, 0, 234, 42, 180, 0, 7, 27, 46, 62, 42, 180, 0, 7, 27, 28, 79, 29, 172]
abbrev dktX4_puts_0 : List UInt8 := dkwX4_puts_0 ++ []
theorem dksX4_puts_0 : cX4_puts.data.toList.drop 0 = dktX4_puts_0 := by decide +kernel
theorem dX4_puts_0 : decode cX4_puts 0 = .ok (.aload_n 0, 1) := dk_42 (dk_at dksX4_puts_0 0 rfl rfl)
theorem dX4_puts_1 : decode cX4_puts 1 = .ok (.invokevirtual 234, 3) := dk_182 0 234 (dk_at dksX4_puts_0 1 rfl rfl)
theorem dX4_puts_4 : decode cX4_puts 4 = .ok (.aload_n 0, 1) := dk_42 (dk_at dksX4_puts_0 4 rfl rfl)
theorem dX4_puts_5 : decode cX4_puts 5 = .ok (.getfield 7, 3) := dk_180 0 7 (dk_at dksX4_puts_0 5 rfl rfl)
theorem dX4_puts_8 : decode cX4_puts 8 = .ok (.iload_n 1, 1) := dk_27 (dk_at dksX4_puts_0 8 rfl rfl)
theorem dX4_puts_9 : decode cX4_puts 9 = .ok (.iaload, 1) := dk_46 (dk_at dksX4_puts_0 9 rfl rfl)
theorem dX4_puts_10 : decode cX4_puts 10 = .ok (.istore_n 3, 1) := dk_62 (dk_at dksX4_puts_0 10 rfl rfl)
theorem dX4_puts_11 : decode cX4_puts 11 = .ok (.aload_n 0, 1) := dk_42 (dk_at dksX4_puts_0 11 rfl rfl)
theorem dX4_puts_12 : decode cX4_puts 12 = .ok (.getfield 7, 3) := dk_180 0 7 (dk_at dksX4_puts_0 12 rfl rfl)
theorem dX4_puts_15 : decode cX4_puts 15 = .ok (.iload_n 1, 1) := dk_27 (dk_at dksX4_puts_0 15 rfl rfl)
theorem dX4_puts_16 : decode cX4_puts 16 = .ok (.iload_n 2, 1) := dk_28 (dk_at dksX4_puts_0 16 rfl rfl)
theorem dX4_puts_17 : decode cX4_puts 17 = .ok (.iastore, 1) := dk_79 (dk_at dksX4_puts_0 17 rfl rfl)
theorem dX4_puts_18 : decode cX4_puts 18 = .ok (.iload_n 3, 1) := dk_29 (dk_at dksX4_puts_0 18 rfl rfl)
theorem dX4_puts_19 : decode cX4_puts 19 = .ok (.ireturn, 1) := dk_172 (dk_at dksX4_puts_0 19 rfl rfl)
def dkwX4_hold_2 : List UInt8 := [182, 0, 240, 167, 0, 4, 2, 172]
abbrev dktX4_hold_2 : List UInt8 := dkwX4_hold_2 ++ []
def dkwX4_hold_1 : List UInt8 := [153, 0, 29, 42, 27, 28, 182, 0, 72, 29, 159, 0, 19, 42, 16, 40, 7, 27, 104, 96, 28, 96, 29]
abbrev dktX4_hold_1 : List UInt8 := dkwX4_hold_1 ++ dktX4_hold_2
def dkwX4_hold_0 : List UInt8 := [42, 27, 182, 0, 237, 153, 0, 47, 42, 28, 182, 0, 224, 153, 0, 39, 29, 3, 16, 60, 184, 0, 68]
abbrev dktX4_hold_0 : List UInt8 := dkwX4_hold_0 ++ dktX4_hold_1
theorem dksX4_hold_0 : cX4_hold.data.toList.drop 0 = dktX4_hold_0 := by decide +kernel
theorem dksX4_hold_1 : cX4_hold.data.toList.drop 23 = dktX4_hold_1 := dk_seg dksX4_hold_0 23 rfl rfl
theorem dksX4_hold_2 : cX4_hold.data.toList.drop 46 = dktX4_hold_2 := dk_seg dksX4_hold_1 23 rfl rfl
theorem dX4_hold_0 : decode cX4_hold 0 = .ok (.aload_n 0, 1) := dk_42 (dk_at dksX4_hold_0 0 rfl rfl)
theorem dX4_hold_1 : decode cX4_hold 1 = .ok (.iload_n 1, 1) := dk_27 (dk_at dksX4_hold_0 1 rfl rfl)
theorem dX4_hold_2 : decode cX4_hold 2 = .ok (.invokevirtual 237, 3) := dk_182 0 237 (dk_at dksX4_hold_0 2 rfl rfl)
theorem dX4_hold_5 : decode cX4_hold 5 = .ok (.ifCond .eq 47, 3) := dk_153 0 47 (dk_at dksX4_hold_0 5 rfl rfl)
theorem dX4_hold_8 : decode cX4_hold 8 = .ok (.aload_n 0, 1) := dk_42 (dk_at dksX4_hold_0 8 rfl rfl)
theorem dX4_hold_9 : decode cX4_hold 9 = .ok (.iload_n 2, 1) := dk_28 (dk_at dksX4_hold_0 9 rfl rfl)
theorem dX4_hold_10 : decode cX4_hold 10 = .ok (.invokevirtual 224, 3) := dk_182 0 224 (dk_at dksX4_hold_0 10 rfl rfl)
theorem dX4_hold_13 : decode cX4_hold 13 = .ok (.ifCond .eq 39, 3) := dk_153 0 39 (dk_at dksX4_hold_0 13 rfl rfl)
theorem dX4_hold_16 : decode cX4_hold 16 = .ok (.iload_n 3, 1) := dk_29 (dk_at dksX4_hold_0 16 rfl rfl)
theorem dX4_hold_17 : decode cX4_hold 17 = .ok (.iconst 0, 1) := dk_3 (dk_at dksX4_hold_0 17 rfl rfl)
theorem dX4_hold_18 : decode cX4_hold 18 = .ok (.bipush 60, 2) := dk_16 60 (dk_at dksX4_hold_0 18 rfl rfl)
theorem dX4_hold_20 : decode cX4_hold 20 = .ok (.invokestatic 68, 3) := dk_184 0 68 (dk_at dksX4_hold_0 20 rfl rfl)
theorem dX4_hold_23 : decode cX4_hold 23 = .ok (.ifCond .eq 29, 3) := dk_153 0 29 (dk_at dksX4_hold_1 0 rfl rfl)
theorem dX4_hold_26 : decode cX4_hold 26 = .ok (.aload_n 0, 1) := dk_42 (dk_at dksX4_hold_1 3 rfl rfl)
theorem dX4_hold_27 : decode cX4_hold 27 = .ok (.iload_n 1, 1) := dk_27 (dk_at dksX4_hold_1 4 rfl rfl)
theorem dX4_hold_28 : decode cX4_hold 28 = .ok (.iload_n 2, 1) := dk_28 (dk_at dksX4_hold_1 5 rfl rfl)
theorem dX4_hold_29 : decode cX4_hold 29 = .ok (.invokevirtual 72, 3) := dk_182 0 72 (dk_at dksX4_hold_1 6 rfl rfl)
theorem dX4_hold_32 : decode cX4_hold 32 = .ok (.iload_n 3, 1) := dk_29 (dk_at dksX4_hold_1 9 rfl rfl)
theorem dX4_hold_33 : decode cX4_hold 33 = .ok (.if_icmp .eq 19, 3) := dk_159 0 19 (dk_at dksX4_hold_1 10 rfl rfl)
theorem dX4_hold_36 : decode cX4_hold 36 = .ok (.aload_n 0, 1) := dk_42 (dk_at dksX4_hold_1 13 rfl rfl)
theorem dX4_hold_37 : decode cX4_hold 37 = .ok (.bipush 40, 2) := dk_16 40 (dk_at dksX4_hold_1 14 rfl rfl)
theorem dX4_hold_39 : decode cX4_hold 39 = .ok (.iconst 4, 1) := dk_7 (dk_at dksX4_hold_1 16 rfl rfl)
theorem dX4_hold_40 : decode cX4_hold 40 = .ok (.iload_n 1, 1) := dk_27 (dk_at dksX4_hold_1 17 rfl rfl)
theorem dX4_hold_41 : decode cX4_hold 41 = .ok (.imul, 1) := dk_104 (dk_at dksX4_hold_1 18 rfl rfl)
theorem dX4_hold_42 : decode cX4_hold 42 = .ok (.iadd, 1) := dk_96 (dk_at dksX4_hold_1 19 rfl rfl)
theorem dX4_hold_43 : decode cX4_hold 43 = .ok (.iload_n 2, 1) := dk_28 (dk_at dksX4_hold_1 20 rfl rfl)
theorem dX4_hold_44 : decode cX4_hold 44 = .ok (.iadd, 1) := dk_96 (dk_at dksX4_hold_1 21 rfl rfl)
theorem dX4_hold_45 : decode cX4_hold 45 = .ok (.iload_n 3, 1) := dk_29 (dk_at dksX4_hold_1 22 rfl rfl)
theorem dX4_hold_46 : decode cX4_hold 46 = .ok (.invokevirtual 240, 3) := dk_182 0 240 (dk_at dksX4_hold_2 0 rfl rfl)
theorem dX4_hold_49 : decode cX4_hold 49 = .ok (.goto 4, 3) := dk_167 0 4 (dk_at dksX4_hold_2 3 rfl rfl)
theorem dX4_hold_52 : decode cX4_hold 52 = .ok (.iconst (-1), 1) := dk_2 (dk_at dksX4_hold_2 6 rfl rfl)
theorem dX4_hold_53 : decode cX4_hold 53 = .ok (.ireturn, 1) := dk_172 (dk_at dksX4_hold_2 7 rfl rfl)
def dkwX4_isAsset_0 : List UInt8 := [27, 3, 42, 180, 0, 7, 3, 46, 4, 100, 184, 0, 68, 172]
abbrev dktX4_isAsset_0 : List UInt8 := dkwX4_isAsset_0 ++ []
theorem dksX4_isAsset_0 : cX4_isAsset.data.toList.drop 0 = dktX4_isAsset_0 := by decide +kernel
theorem dX4_isAsset_0 : decode cX4_isAsset 0 = .ok (.iload_n 1, 1) := dk_27 (dk_at dksX4_isAsset_0 0 rfl rfl)
theorem dX4_isAsset_1 : decode cX4_isAsset 1 = .ok (.iconst 0, 1) := dk_3 (dk_at dksX4_isAsset_0 1 rfl rfl)
theorem dX4_isAsset_2 : decode cX4_isAsset 2 = .ok (.aload_n 0, 1) := dk_42 (dk_at dksX4_isAsset_0 2 rfl rfl)
theorem dX4_isAsset_3 : decode cX4_isAsset 3 = .ok (.getfield 7, 3) := dk_180 0 7 (dk_at dksX4_isAsset_0 3 rfl rfl)
theorem dX4_isAsset_6 : decode cX4_isAsset 6 = .ok (.iconst 0, 1) := dk_3 (dk_at dksX4_isAsset_0 6 rfl rfl)
theorem dX4_isAsset_7 : decode cX4_isAsset 7 = .ok (.iaload, 1) := dk_46 (dk_at dksX4_isAsset_0 7 rfl rfl)
theorem dX4_isAsset_8 : decode cX4_isAsset 8 = .ok (.iconst 1, 1) := dk_4 (dk_at dksX4_isAsset_0 8 rfl rfl)
theorem dX4_isAsset_9 : decode cX4_isAsset 9 = .ok (.isub, 1) := dk_100 (dk_at dksX4_isAsset_0 9 rfl rfl)
theorem dX4_isAsset_10 : decode cX4_isAsset 10 = .ok (.invokestatic 68, 3) := dk_184 0 68 (dk_at dksX4_isAsset_0 10 rfl rfl)
theorem dX4_isAsset_13 : decode cX4_isAsset 13 = .ok (.ireturn, 1) := dk_172 (dk_at dksX4_isAsset_0 13 rfl rfl)
def dkwX4_holds_0 : List UInt8 := [42, 180, 0, 7, 16, 40, 7, 27, 104, 96, 28, 96, 46, 172]
abbrev dktX4_holds_0 : List UInt8 := dkwX4_holds_0 ++ []
theorem dksX4_holds_0 : cX4_holds.data.toList.drop 0 = dktX4_holds_0 := by decide +kernel
theorem dX4_holds_0 : decode cX4_holds 0 = .ok (.aload_n 0, 1) := dk_42 (dk_at dksX4_holds_0 0 rfl rfl)
theorem dX4_holds_1 : decode cX4_holds 1 = .ok (.getfield 7, 3) := dk_180 0 7 (dk_at dksX4_holds_0 1 rfl rfl)
theorem dX4_holds_4 : decode cX4_holds 4 = .ok (.bipush 40, 2) := dk_16 40 (dk_at dksX4_holds_0 4 rfl rfl)
theorem dX4_holds_6 : decode cX4_holds 6 = .ok (.iconst 4, 1) := dk_7 (dk_at dksX4_holds_0 6 rfl rfl)
theorem dX4_holds_7 : decode cX4_holds 7 = .ok (.iload_n 1, 1) := dk_27 (dk_at dksX4_holds_0 7 rfl rfl)
theorem dX4_holds_8 : decode cX4_holds 8 = .ok (.imul, 1) := dk_104 (dk_at dksX4_holds_0 8 rfl rfl)
theorem dX4_holds_9 : decode cX4_holds 9 = .ok (.iadd, 1) := dk_96 (dk_at dksX4_holds_0 9 rfl rfl)
theorem dX4_holds_10 : decode cX4_holds 10 = .ok (.iload_n 2, 1) := dk_28 (dk_at dksX4_holds_0 10 rfl rfl)
theorem dX4_holds_11 : decode cX4_holds 11 = .ok (.iadd, 1) := dk_96 (dk_at dksX4_holds_0 11 rfl rfl)
theorem dX4_holds_12 : decode cX4_holds 12 = .ok (.iaload, 1) := dk_46 (dk_at dksX4_holds_0 12 rfl rfl)
theorem dX4_holds_13 : decode cX4_holds 13 = .ok (.ireturn, 1) := dk_172 (dk_at dksX4_holds_0 13 rfl rfl)
def dkwX4_loan_2 : List UInt8 := [27, 104, 96, 28, 96, 29, 182, 0, 240, 167, 0, 4, 2, 172]
abbrev dktX4_loan_2 : List UInt8 := dkwX4_loan_2 ++ []
def dkwX4_loan_1 : List UInt8 := [17, 3, 231, 184, 0, 68, 153, 0, 30, 42, 27, 28, 182, 0, 181, 29, 159, 0, 20, 42, 16, 64, 16, 6]
abbrev dktX4_loan_1 : List UInt8 := dkwX4_loan_1 ++ dktX4_loan_2
def dkwX4_loan_0 : List UInt8 := [42, 27, 182, 0, 237, 153, 0, 54, 42, 28, 182, 0, 237, 153, 0, 46, 27, 28, 159, 0, 41, 29, 3]
abbrev dktX4_loan_0 : List UInt8 := dkwX4_loan_0 ++ dktX4_loan_1
theorem dksX4_loan_0 : cX4_loan.data.toList.drop 0 = dktX4_loan_0 := by decide +kernel
theorem dksX4_loan_1 : cX4_loan.data.toList.drop 23 = dktX4_loan_1 := dk_seg dksX4_loan_0 23 rfl rfl
theorem dksX4_loan_2 : cX4_loan.data.toList.drop 47 = dktX4_loan_2 := dk_seg dksX4_loan_1 24 rfl rfl
theorem dX4_loan_0 : decode cX4_loan 0 = .ok (.aload_n 0, 1) := dk_42 (dk_at dksX4_loan_0 0 rfl rfl)
theorem dX4_loan_1 : decode cX4_loan 1 = .ok (.iload_n 1, 1) := dk_27 (dk_at dksX4_loan_0 1 rfl rfl)
theorem dX4_loan_2 : decode cX4_loan 2 = .ok (.invokevirtual 237, 3) := dk_182 0 237 (dk_at dksX4_loan_0 2 rfl rfl)
theorem dX4_loan_5 : decode cX4_loan 5 = .ok (.ifCond .eq 54, 3) := dk_153 0 54 (dk_at dksX4_loan_0 5 rfl rfl)
theorem dX4_loan_8 : decode cX4_loan 8 = .ok (.aload_n 0, 1) := dk_42 (dk_at dksX4_loan_0 8 rfl rfl)
theorem dX4_loan_9 : decode cX4_loan 9 = .ok (.iload_n 2, 1) := dk_28 (dk_at dksX4_loan_0 9 rfl rfl)
theorem dX4_loan_10 : decode cX4_loan 10 = .ok (.invokevirtual 237, 3) := dk_182 0 237 (dk_at dksX4_loan_0 10 rfl rfl)
theorem dX4_loan_13 : decode cX4_loan 13 = .ok (.ifCond .eq 46, 3) := dk_153 0 46 (dk_at dksX4_loan_0 13 rfl rfl)
theorem dX4_loan_16 : decode cX4_loan 16 = .ok (.iload_n 1, 1) := dk_27 (dk_at dksX4_loan_0 16 rfl rfl)
theorem dX4_loan_17 : decode cX4_loan 17 = .ok (.iload_n 2, 1) := dk_28 (dk_at dksX4_loan_0 17 rfl rfl)
theorem dX4_loan_18 : decode cX4_loan 18 = .ok (.if_icmp .eq 41, 3) := dk_159 0 41 (dk_at dksX4_loan_0 18 rfl rfl)
theorem dX4_loan_21 : decode cX4_loan 21 = .ok (.iload_n 3, 1) := dk_29 (dk_at dksX4_loan_0 21 rfl rfl)
theorem dX4_loan_22 : decode cX4_loan 22 = .ok (.iconst 0, 1) := dk_3 (dk_at dksX4_loan_0 22 rfl rfl)
theorem dX4_loan_23 : decode cX4_loan 23 = .ok (.sipush 999, 3) := dk_17 3 231 (dk_at dksX4_loan_1 0 rfl rfl)
theorem dX4_loan_26 : decode cX4_loan 26 = .ok (.invokestatic 68, 3) := dk_184 0 68 (dk_at dksX4_loan_1 3 rfl rfl)
theorem dX4_loan_29 : decode cX4_loan 29 = .ok (.ifCond .eq 30, 3) := dk_153 0 30 (dk_at dksX4_loan_1 6 rfl rfl)
theorem dX4_loan_32 : decode cX4_loan 32 = .ok (.aload_n 0, 1) := dk_42 (dk_at dksX4_loan_1 9 rfl rfl)
theorem dX4_loan_33 : decode cX4_loan 33 = .ok (.iload_n 1, 1) := dk_27 (dk_at dksX4_loan_1 10 rfl rfl)
theorem dX4_loan_34 : decode cX4_loan 34 = .ok (.iload_n 2, 1) := dk_28 (dk_at dksX4_loan_1 11 rfl rfl)
theorem dX4_loan_35 : decode cX4_loan 35 = .ok (.invokevirtual 181, 3) := dk_182 0 181 (dk_at dksX4_loan_1 12 rfl rfl)
theorem dX4_loan_38 : decode cX4_loan 38 = .ok (.iload_n 3, 1) := dk_29 (dk_at dksX4_loan_1 15 rfl rfl)
theorem dX4_loan_39 : decode cX4_loan 39 = .ok (.if_icmp .eq 20, 3) := dk_159 0 20 (dk_at dksX4_loan_1 16 rfl rfl)
theorem dX4_loan_42 : decode cX4_loan 42 = .ok (.aload_n 0, 1) := dk_42 (dk_at dksX4_loan_1 19 rfl rfl)
theorem dX4_loan_43 : decode cX4_loan 43 = .ok (.bipush 64, 2) := dk_16 64 (dk_at dksX4_loan_1 20 rfl rfl)
theorem dX4_loan_45 : decode cX4_loan 45 = .ok (.bipush 6, 2) := dk_16 6 (dk_at dksX4_loan_1 22 rfl rfl)
theorem dX4_loan_47 : decode cX4_loan 47 = .ok (.iload_n 1, 1) := dk_27 (dk_at dksX4_loan_2 0 rfl rfl)
theorem dX4_loan_48 : decode cX4_loan 48 = .ok (.imul, 1) := dk_104 (dk_at dksX4_loan_2 1 rfl rfl)
theorem dX4_loan_49 : decode cX4_loan 49 = .ok (.iadd, 1) := dk_96 (dk_at dksX4_loan_2 2 rfl rfl)
theorem dX4_loan_50 : decode cX4_loan 50 = .ok (.iload_n 2, 1) := dk_28 (dk_at dksX4_loan_2 3 rfl rfl)
theorem dX4_loan_51 : decode cX4_loan 51 = .ok (.iadd, 1) := dk_96 (dk_at dksX4_loan_2 4 rfl rfl)
theorem dX4_loan_52 : decode cX4_loan 52 = .ok (.iload_n 3, 1) := dk_29 (dk_at dksX4_loan_2 5 rfl rfl)
theorem dX4_loan_53 : decode cX4_loan 53 = .ok (.invokevirtual 240, 3) := dk_182 0 240 (dk_at dksX4_loan_2 6 rfl rfl)
theorem dX4_loan_56 : decode cX4_loan 56 = .ok (.goto 4, 3) := dk_167 0 4 (dk_at dksX4_loan_2 9 rfl rfl)
theorem dX4_loan_59 : decode cX4_loan 59 = .ok (.iconst (-1), 1) := dk_2 (dk_at dksX4_loan_2 12 rfl rfl)
theorem dX4_loan_60 : decode cX4_loan 60 = .ok (.ireturn, 1) := dk_172 (dk_at dksX4_loan_2 13 rfl rfl)
def dkwX4_loanOf_0 : List UInt8 := [42, 180, 0, 7, 16, 64, 16, 6, 27, 104, 96, 28, 96, 46, 172]
abbrev dktX4_loanOf_0 : List UInt8 := dkwX4_loanOf_0 ++ []
theorem dksX4_loanOf_0 : cX4_loanOf.data.toList.drop 0 = dktX4_loanOf_0 := by decide +kernel
theorem dX4_loanOf_0 : decode cX4_loanOf 0 = .ok (.aload_n 0, 1) := dk_42 (dk_at dksX4_loanOf_0 0 rfl rfl)
theorem dX4_loanOf_1 : decode cX4_loanOf 1 = .ok (.getfield 7, 3) := dk_180 0 7 (dk_at dksX4_loanOf_0 1 rfl rfl)
theorem dX4_loanOf_4 : decode cX4_loanOf 4 = .ok (.bipush 64, 2) := dk_16 64 (dk_at dksX4_loanOf_0 4 rfl rfl)
theorem dX4_loanOf_6 : decode cX4_loanOf 6 = .ok (.bipush 6, 2) := dk_16 6 (dk_at dksX4_loanOf_0 6 rfl rfl)
theorem dX4_loanOf_8 : decode cX4_loanOf 8 = .ok (.iload_n 1, 1) := dk_27 (dk_at dksX4_loanOf_0 8 rfl rfl)
theorem dX4_loanOf_9 : decode cX4_loanOf 9 = .ok (.imul, 1) := dk_104 (dk_at dksX4_loanOf_0 9 rfl rfl)
theorem dX4_loanOf_10 : decode cX4_loanOf 10 = .ok (.iadd, 1) := dk_96 (dk_at dksX4_loanOf_0 10 rfl rfl)
theorem dX4_loanOf_11 : decode cX4_loanOf 11 = .ok (.iload_n 2, 1) := dk_28 (dk_at dksX4_loanOf_0 11 rfl rfl)
theorem dX4_loanOf_12 : decode cX4_loanOf 12 = .ok (.iadd, 1) := dk_96 (dk_at dksX4_loanOf_0 12 rfl rfl)
theorem dX4_loanOf_13 : decode cX4_loanOf 13 = .ok (.iaload, 1) := dk_46 (dk_at dksX4_loanOf_0 13 rfl rfl)
theorem dX4_loanOf_14 : decode cX4_loanOf 14 = .ok (.ireturn, 1) := dk_172 (dk_at dksX4_loanOf_0 14 rfl rfl)
def dkwX4_curve_3 : List UInt8 := [160, 0, 7, 2, 167, 0, 10, 42, 21, 4, 29, 182, 0, 240, 172]
abbrev dktX4_curve_3 : List UInt8 := dkwX4_curve_3 ++ []
def dkwX4_curve_2 : List UInt8 := [28, 154, 0, 7, 5, 167, 0, 5, 16, 6, 27, 96, 54, 4, 42, 180, 0, 7, 21, 4, 46, 29]
abbrev dktX4_curve_2 : List UInt8 := dkwX4_curve_2 ++ dktX4_curve_3
def dkwX4_curve_1 : List UInt8 := [167, 0, 4, 3, 28, 154, 0, 9, 17, 0, 200, 167, 0, 5, 16, 9, 184, 0, 68, 154, 0, 5, 2, 172]
abbrev dktX4_curve_1 : List UInt8 := dkwX4_curve_1 ++ dktX4_curve_2
def dkwX4_curve_0 : List UInt8 := [42, 27, 182, 0, 224, 153, 0, 40, 28, 3, 4, 184, 0, 68, 153, 0, 31, 29, 28, 154, 0, 7, 4]
abbrev dktX4_curve_0 : List UInt8 := dkwX4_curve_0 ++ dktX4_curve_1
theorem dksX4_curve_0 : cX4_curve.data.toList.drop 0 = dktX4_curve_0 := by decide +kernel
theorem dksX4_curve_1 : cX4_curve.data.toList.drop 23 = dktX4_curve_1 := dk_seg dksX4_curve_0 23 rfl rfl
theorem dksX4_curve_2 : cX4_curve.data.toList.drop 47 = dktX4_curve_2 := dk_seg dksX4_curve_1 24 rfl rfl
theorem dksX4_curve_3 : cX4_curve.data.toList.drop 69 = dktX4_curve_3 := dk_seg dksX4_curve_2 22 rfl rfl
theorem dX4_curve_0 : decode cX4_curve 0 = .ok (.aload_n 0, 1) := dk_42 (dk_at dksX4_curve_0 0 rfl rfl)
theorem dX4_curve_1 : decode cX4_curve 1 = .ok (.iload_n 1, 1) := dk_27 (dk_at dksX4_curve_0 1 rfl rfl)
theorem dX4_curve_2 : decode cX4_curve 2 = .ok (.invokevirtual 224, 3) := dk_182 0 224 (dk_at dksX4_curve_0 2 rfl rfl)
theorem dX4_curve_5 : decode cX4_curve 5 = .ok (.ifCond .eq 40, 3) := dk_153 0 40 (dk_at dksX4_curve_0 5 rfl rfl)
theorem dX4_curve_8 : decode cX4_curve 8 = .ok (.iload_n 2, 1) := dk_28 (dk_at dksX4_curve_0 8 rfl rfl)
theorem dX4_curve_9 : decode cX4_curve 9 = .ok (.iconst 0, 1) := dk_3 (dk_at dksX4_curve_0 9 rfl rfl)
theorem dX4_curve_10 : decode cX4_curve 10 = .ok (.iconst 1, 1) := dk_4 (dk_at dksX4_curve_0 10 rfl rfl)
theorem dX4_curve_11 : decode cX4_curve 11 = .ok (.invokestatic 68, 3) := dk_184 0 68 (dk_at dksX4_curve_0 11 rfl rfl)
theorem dX4_curve_14 : decode cX4_curve 14 = .ok (.ifCond .eq 31, 3) := dk_153 0 31 (dk_at dksX4_curve_0 14 rfl rfl)
theorem dX4_curve_17 : decode cX4_curve 17 = .ok (.iload_n 3, 1) := dk_29 (dk_at dksX4_curve_0 17 rfl rfl)
theorem dX4_curve_18 : decode cX4_curve 18 = .ok (.iload_n 2, 1) := dk_28 (dk_at dksX4_curve_0 18 rfl rfl)
theorem dX4_curve_19 : decode cX4_curve 19 = .ok (.ifCond .ne 7, 3) := dk_154 0 7 (dk_at dksX4_curve_0 19 rfl rfl)
theorem dX4_curve_22 : decode cX4_curve 22 = .ok (.iconst 1, 1) := dk_4 (dk_at dksX4_curve_0 22 rfl rfl)
theorem dX4_curve_23 : decode cX4_curve 23 = .ok (.goto 4, 3) := dk_167 0 4 (dk_at dksX4_curve_1 0 rfl rfl)
theorem dX4_curve_26 : decode cX4_curve 26 = .ok (.iconst 0, 1) := dk_3 (dk_at dksX4_curve_1 3 rfl rfl)
theorem dX4_curve_27 : decode cX4_curve 27 = .ok (.iload_n 2, 1) := dk_28 (dk_at dksX4_curve_1 4 rfl rfl)
theorem dX4_curve_28 : decode cX4_curve 28 = .ok (.ifCond .ne 9, 3) := dk_154 0 9 (dk_at dksX4_curve_1 5 rfl rfl)
theorem dX4_curve_31 : decode cX4_curve 31 = .ok (.sipush 200, 3) := dk_17 0 200 (dk_at dksX4_curve_1 8 rfl rfl)
theorem dX4_curve_34 : decode cX4_curve 34 = .ok (.goto 5, 3) := dk_167 0 5 (dk_at dksX4_curve_1 11 rfl rfl)
theorem dX4_curve_37 : decode cX4_curve 37 = .ok (.bipush 9, 2) := dk_16 9 (dk_at dksX4_curve_1 14 rfl rfl)
theorem dX4_curve_39 : decode cX4_curve 39 = .ok (.invokestatic 68, 3) := dk_184 0 68 (dk_at dksX4_curve_1 16 rfl rfl)
theorem dX4_curve_42 : decode cX4_curve 42 = .ok (.ifCond .ne 5, 3) := dk_154 0 5 (dk_at dksX4_curve_1 19 rfl rfl)
theorem dX4_curve_45 : decode cX4_curve 45 = .ok (.iconst (-1), 1) := dk_2 (dk_at dksX4_curve_1 22 rfl rfl)
theorem dX4_curve_46 : decode cX4_curve 46 = .ok (.ireturn, 1) := dk_172 (dk_at dksX4_curve_1 23 rfl rfl)
theorem dX4_curve_47 : decode cX4_curve 47 = .ok (.iload_n 2, 1) := dk_28 (dk_at dksX4_curve_2 0 rfl rfl)
theorem dX4_curve_48 : decode cX4_curve 48 = .ok (.ifCond .ne 7, 3) := dk_154 0 7 (dk_at dksX4_curve_2 1 rfl rfl)
theorem dX4_curve_51 : decode cX4_curve 51 = .ok (.iconst 2, 1) := dk_5 (dk_at dksX4_curve_2 4 rfl rfl)
theorem dX4_curve_52 : decode cX4_curve 52 = .ok (.goto 5, 3) := dk_167 0 5 (dk_at dksX4_curve_2 5 rfl rfl)
theorem dX4_curve_55 : decode cX4_curve 55 = .ok (.bipush 6, 2) := dk_16 6 (dk_at dksX4_curve_2 8 rfl rfl)
theorem dX4_curve_57 : decode cX4_curve 57 = .ok (.iload_n 1, 1) := dk_27 (dk_at dksX4_curve_2 10 rfl rfl)
theorem dX4_curve_58 : decode cX4_curve 58 = .ok (.iadd, 1) := dk_96 (dk_at dksX4_curve_2 11 rfl rfl)
theorem dX4_curve_59 : decode cX4_curve 59 = .ok (.istore 4, 2) := dk_54 4 (dk_at dksX4_curve_2 12 rfl rfl)
theorem dX4_curve_61 : decode cX4_curve 61 = .ok (.aload_n 0, 1) := dk_42 (dk_at dksX4_curve_2 14 rfl rfl)
theorem dX4_curve_62 : decode cX4_curve 62 = .ok (.getfield 7, 3) := dk_180 0 7 (dk_at dksX4_curve_2 15 rfl rfl)
theorem dX4_curve_65 : decode cX4_curve 65 = .ok (.iload 4, 2) := dk_21 4 (dk_at dksX4_curve_2 18 rfl rfl)
theorem dX4_curve_67 : decode cX4_curve 67 = .ok (.iaload, 1) := dk_46 (dk_at dksX4_curve_2 20 rfl rfl)
theorem dX4_curve_68 : decode cX4_curve 68 = .ok (.iload_n 3, 1) := dk_29 (dk_at dksX4_curve_2 21 rfl rfl)
theorem dX4_curve_69 : decode cX4_curve 69 = .ok (.if_icmp .ne 7, 3) := dk_160 0 7 (dk_at dksX4_curve_3 0 rfl rfl)
theorem dX4_curve_72 : decode cX4_curve 72 = .ok (.iconst (-1), 1) := dk_2 (dk_at dksX4_curve_3 3 rfl rfl)
theorem dX4_curve_73 : decode cX4_curve 73 = .ok (.goto 10, 3) := dk_167 0 10 (dk_at dksX4_curve_3 4 rfl rfl)
theorem dX4_curve_76 : decode cX4_curve 76 = .ok (.aload_n 0, 1) := dk_42 (dk_at dksX4_curve_3 7 rfl rfl)
theorem dX4_curve_77 : decode cX4_curve 77 = .ok (.iload 4, 2) := dk_21 4 (dk_at dksX4_curve_3 8 rfl rfl)
theorem dX4_curve_79 : decode cX4_curve 79 = .ok (.iload_n 3, 1) := dk_29 (dk_at dksX4_curve_3 10 rfl rfl)
theorem dX4_curve_80 : decode cX4_curve 80 = .ok (.invokevirtual 240, 3) := dk_182 0 240 (dk_at dksX4_curve_3 11 rfl rfl)
theorem dX4_curve_83 : decode cX4_curve 83 = .ok (.ireturn, 1) := dk_172 (dk_at dksX4_curve_3 14 rfl rfl)
def dkwX4_lay_4 : List UInt8 := [182, 0, 119, 42, 180, 0, 7, 16, 100, 16, 13, 27, 104, 96, 46, 4, 100, 172]
abbrev dktX4_lay_4 : List UInt8 := dkwX4_lay_4 ++ []
def dkwX4_lay_3 : List UInt8 := [16, 13, 27, 104, 96, 46, 7, 160, 0, 6, 16, 253, 172, 42, 182, 0, 234, 42, 27, 28, 29, 21, 4]
abbrev dktX4_lay_3 : List UInt8 := dkwX4_lay_3 ++ dktX4_lay_4
def dkwX4_lay_2 : List UInt8 := [154, 0, 5, 2, 172, 27, 5, 162, 0, 11, 27, 28, 159, 0, 6, 16, 254, 172, 42, 180, 0, 7, 16, 100]
abbrev dktX4_lay_2 : List UInt8 := dkwX4_lay_2 ++ dktX4_lay_3
def dkwX4_lay_1 : List UInt8 := [153, 0, 25, 21, 4, 3, 28, 154, 0, 9, 17, 1, 104, 167, 0, 6, 17, 0, 200, 184, 0, 68]
abbrev dktX4_lay_1 : List UInt8 := dkwX4_lay_1 ++ dktX4_lay_2
def dkwX4_lay_0 : List UInt8 := [27, 3, 5, 184, 0, 68, 153, 0, 42, 28, 3, 4, 184, 0, 68, 153, 0, 33, 42, 29, 182, 0, 224]
abbrev dktX4_lay_0 : List UInt8 := dkwX4_lay_0 ++ dktX4_lay_1
theorem dksX4_lay_0 : cX4_lay.data.toList.drop 0 = dktX4_lay_0 := by decide +kernel
theorem dksX4_lay_1 : cX4_lay.data.toList.drop 23 = dktX4_lay_1 := dk_seg dksX4_lay_0 23 rfl rfl
theorem dksX4_lay_2 : cX4_lay.data.toList.drop 45 = dktX4_lay_2 := dk_seg dksX4_lay_1 22 rfl rfl
theorem dksX4_lay_3 : cX4_lay.data.toList.drop 69 = dktX4_lay_3 := dk_seg dksX4_lay_2 24 rfl rfl
theorem dksX4_lay_4 : cX4_lay.data.toList.drop 92 = dktX4_lay_4 := dk_seg dksX4_lay_3 23 rfl rfl
theorem dX4_lay_0 : decode cX4_lay 0 = .ok (.iload_n 1, 1) := dk_27 (dk_at dksX4_lay_0 0 rfl rfl)
theorem dX4_lay_1 : decode cX4_lay 1 = .ok (.iconst 0, 1) := dk_3 (dk_at dksX4_lay_0 1 rfl rfl)
theorem dX4_lay_2 : decode cX4_lay 2 = .ok (.iconst 2, 1) := dk_5 (dk_at dksX4_lay_0 2 rfl rfl)
theorem dX4_lay_3 : decode cX4_lay 3 = .ok (.invokestatic 68, 3) := dk_184 0 68 (dk_at dksX4_lay_0 3 rfl rfl)
theorem dX4_lay_6 : decode cX4_lay 6 = .ok (.ifCond .eq 42, 3) := dk_153 0 42 (dk_at dksX4_lay_0 6 rfl rfl)
theorem dX4_lay_9 : decode cX4_lay 9 = .ok (.iload_n 2, 1) := dk_28 (dk_at dksX4_lay_0 9 rfl rfl)
theorem dX4_lay_10 : decode cX4_lay 10 = .ok (.iconst 0, 1) := dk_3 (dk_at dksX4_lay_0 10 rfl rfl)
theorem dX4_lay_11 : decode cX4_lay 11 = .ok (.iconst 1, 1) := dk_4 (dk_at dksX4_lay_0 11 rfl rfl)
theorem dX4_lay_12 : decode cX4_lay 12 = .ok (.invokestatic 68, 3) := dk_184 0 68 (dk_at dksX4_lay_0 12 rfl rfl)
theorem dX4_lay_15 : decode cX4_lay 15 = .ok (.ifCond .eq 33, 3) := dk_153 0 33 (dk_at dksX4_lay_0 15 rfl rfl)
theorem dX4_lay_18 : decode cX4_lay 18 = .ok (.aload_n 0, 1) := dk_42 (dk_at dksX4_lay_0 18 rfl rfl)
theorem dX4_lay_19 : decode cX4_lay 19 = .ok (.iload_n 3, 1) := dk_29 (dk_at dksX4_lay_0 19 rfl rfl)
theorem dX4_lay_20 : decode cX4_lay 20 = .ok (.invokevirtual 224, 3) := dk_182 0 224 (dk_at dksX4_lay_0 20 rfl rfl)
theorem dX4_lay_23 : decode cX4_lay 23 = .ok (.ifCond .eq 25, 3) := dk_153 0 25 (dk_at dksX4_lay_1 0 rfl rfl)
theorem dX4_lay_26 : decode cX4_lay 26 = .ok (.iload 4, 2) := dk_21 4 (dk_at dksX4_lay_1 3 rfl rfl)
theorem dX4_lay_28 : decode cX4_lay 28 = .ok (.iconst 0, 1) := dk_3 (dk_at dksX4_lay_1 5 rfl rfl)
theorem dX4_lay_29 : decode cX4_lay 29 = .ok (.iload_n 2, 1) := dk_28 (dk_at dksX4_lay_1 6 rfl rfl)
theorem dX4_lay_30 : decode cX4_lay 30 = .ok (.ifCond .ne 9, 3) := dk_154 0 9 (dk_at dksX4_lay_1 7 rfl rfl)
theorem dX4_lay_33 : decode cX4_lay 33 = .ok (.sipush 360, 3) := dk_17 1 104 (dk_at dksX4_lay_1 10 rfl rfl)
theorem dX4_lay_36 : decode cX4_lay 36 = .ok (.goto 6, 3) := dk_167 0 6 (dk_at dksX4_lay_1 13 rfl rfl)
theorem dX4_lay_39 : decode cX4_lay 39 = .ok (.sipush 200, 3) := dk_17 0 200 (dk_at dksX4_lay_1 16 rfl rfl)
theorem dX4_lay_42 : decode cX4_lay 42 = .ok (.invokestatic 68, 3) := dk_184 0 68 (dk_at dksX4_lay_1 19 rfl rfl)
theorem dX4_lay_45 : decode cX4_lay 45 = .ok (.ifCond .ne 5, 3) := dk_154 0 5 (dk_at dksX4_lay_2 0 rfl rfl)
theorem dX4_lay_48 : decode cX4_lay 48 = .ok (.iconst (-1), 1) := dk_2 (dk_at dksX4_lay_2 3 rfl rfl)
theorem dX4_lay_49 : decode cX4_lay 49 = .ok (.ireturn, 1) := dk_172 (dk_at dksX4_lay_2 4 rfl rfl)
theorem dX4_lay_50 : decode cX4_lay 50 = .ok (.iload_n 1, 1) := dk_27 (dk_at dksX4_lay_2 5 rfl rfl)
theorem dX4_lay_51 : decode cX4_lay 51 = .ok (.iconst 2, 1) := dk_5 (dk_at dksX4_lay_2 6 rfl rfl)
theorem dX4_lay_52 : decode cX4_lay 52 = .ok (.if_icmp .ge 11, 3) := dk_162 0 11 (dk_at dksX4_lay_2 7 rfl rfl)
theorem dX4_lay_55 : decode cX4_lay 55 = .ok (.iload_n 1, 1) := dk_27 (dk_at dksX4_lay_2 10 rfl rfl)
theorem dX4_lay_56 : decode cX4_lay 56 = .ok (.iload_n 2, 1) := dk_28 (dk_at dksX4_lay_2 11 rfl rfl)
theorem dX4_lay_57 : decode cX4_lay 57 = .ok (.if_icmp .eq 6, 3) := dk_159 0 6 (dk_at dksX4_lay_2 12 rfl rfl)
theorem dX4_lay_60 : decode cX4_lay 60 = .ok (.bipush (-2), 2) := dk_16 254 (dk_at dksX4_lay_2 15 rfl rfl)
theorem dX4_lay_62 : decode cX4_lay 62 = .ok (.ireturn, 1) := dk_172 (dk_at dksX4_lay_2 17 rfl rfl)
theorem dX4_lay_63 : decode cX4_lay 63 = .ok (.aload_n 0, 1) := dk_42 (dk_at dksX4_lay_2 18 rfl rfl)
theorem dX4_lay_64 : decode cX4_lay 64 = .ok (.getfield 7, 3) := dk_180 0 7 (dk_at dksX4_lay_2 19 rfl rfl)
theorem dX4_lay_67 : decode cX4_lay 67 = .ok (.bipush 100, 2) := dk_16 100 (dk_at dksX4_lay_2 22 rfl rfl)
theorem dX4_lay_69 : decode cX4_lay 69 = .ok (.bipush 13, 2) := dk_16 13 (dk_at dksX4_lay_3 0 rfl rfl)
theorem dX4_lay_71 : decode cX4_lay 71 = .ok (.iload_n 1, 1) := dk_27 (dk_at dksX4_lay_3 2 rfl rfl)
theorem dX4_lay_72 : decode cX4_lay 72 = .ok (.imul, 1) := dk_104 (dk_at dksX4_lay_3 3 rfl rfl)
theorem dX4_lay_73 : decode cX4_lay 73 = .ok (.iadd, 1) := dk_96 (dk_at dksX4_lay_3 4 rfl rfl)
theorem dX4_lay_74 : decode cX4_lay 74 = .ok (.iaload, 1) := dk_46 (dk_at dksX4_lay_3 5 rfl rfl)
theorem dX4_lay_75 : decode cX4_lay 75 = .ok (.iconst 4, 1) := dk_7 (dk_at dksX4_lay_3 6 rfl rfl)
theorem dX4_lay_76 : decode cX4_lay 76 = .ok (.if_icmp .ne 6, 3) := dk_160 0 6 (dk_at dksX4_lay_3 7 rfl rfl)
theorem dX4_lay_79 : decode cX4_lay 79 = .ok (.bipush (-3), 2) := dk_16 253 (dk_at dksX4_lay_3 10 rfl rfl)
theorem dX4_lay_81 : decode cX4_lay 81 = .ok (.ireturn, 1) := dk_172 (dk_at dksX4_lay_3 12 rfl rfl)
theorem dX4_lay_82 : decode cX4_lay 82 = .ok (.aload_n 0, 1) := dk_42 (dk_at dksX4_lay_3 13 rfl rfl)
theorem dX4_lay_83 : decode cX4_lay 83 = .ok (.invokevirtual 234, 3) := dk_182 0 234 (dk_at dksX4_lay_3 14 rfl rfl)
theorem dX4_lay_86 : decode cX4_lay 86 = .ok (.aload_n 0, 1) := dk_42 (dk_at dksX4_lay_3 17 rfl rfl)
theorem dX4_lay_87 : decode cX4_lay 87 = .ok (.iload_n 1, 1) := dk_27 (dk_at dksX4_lay_3 18 rfl rfl)
theorem dX4_lay_88 : decode cX4_lay 88 = .ok (.iload_n 2, 1) := dk_28 (dk_at dksX4_lay_3 19 rfl rfl)
theorem dX4_lay_89 : decode cX4_lay 89 = .ok (.iload_n 3, 1) := dk_29 (dk_at dksX4_lay_3 20 rfl rfl)
theorem dX4_lay_90 : decode cX4_lay 90 = .ok (.iload 4, 2) := dk_21 4 (dk_at dksX4_lay_3 21 rfl rfl)
theorem dX4_lay_92 : decode cX4_lay 92 = .ok (.invokevirtual 119, 3) := dk_182 0 119 (dk_at dksX4_lay_4 0 rfl rfl)
theorem dX4_lay_95 : decode cX4_lay 95 = .ok (.aload_n 0, 1) := dk_42 (dk_at dksX4_lay_4 3 rfl rfl)
theorem dX4_lay_96 : decode cX4_lay 96 = .ok (.getfield 7, 3) := dk_180 0 7 (dk_at dksX4_lay_4 4 rfl rfl)
theorem dX4_lay_99 : decode cX4_lay 99 = .ok (.bipush 100, 2) := dk_16 100 (dk_at dksX4_lay_4 7 rfl rfl)
theorem dX4_lay_101 : decode cX4_lay 101 = .ok (.bipush 13, 2) := dk_16 13 (dk_at dksX4_lay_4 9 rfl rfl)
theorem dX4_lay_103 : decode cX4_lay 103 = .ok (.iload_n 1, 1) := dk_27 (dk_at dksX4_lay_4 11 rfl rfl)
theorem dX4_lay_104 : decode cX4_lay 104 = .ok (.imul, 1) := dk_104 (dk_at dksX4_lay_4 12 rfl rfl)
theorem dX4_lay_105 : decode cX4_lay 105 = .ok (.iadd, 1) := dk_96 (dk_at dksX4_lay_4 13 rfl rfl)
theorem dX4_lay_106 : decode cX4_lay 106 = .ok (.iaload, 1) := dk_46 (dk_at dksX4_lay_4 14 rfl rfl)
theorem dX4_lay_107 : decode cX4_lay 107 = .ok (.iconst 1, 1) := dk_4 (dk_at dksX4_lay_4 15 rfl rfl)
theorem dX4_lay_108 : decode cX4_lay 108 = .ok (.isub, 1) := dk_100 (dk_at dksX4_lay_4 16 rfl rfl)
theorem dX4_lay_109 : decode cX4_lay 109 = .ok (.ireturn, 1) := dk_172 (dk_at dksX4_lay_4 17 rfl rfl)
def dkwX4_lift_4 : List UInt8 := [79, 42, 180, 0, 7, 29, 46, 172]
abbrev dktX4_lift_4 : List UInt8 := dkwX4_lift_4 ++ []
def dkwX4_lift_3 : List UInt8 := [180, 0, 7, 21, 4, 6, 96, 46, 79, 132, 4, 1, 167, 255, 228, 42, 180, 0, 7, 29, 92, 46, 4, 100]
abbrev dktX4_lift_3 : List UInt8 := dkwX4_lift_3 ++ dktX4_lift_4
def dkwX4_lift_2 : List UInt8 := [6, 28, 104, 96, 54, 4, 21, 4, 29, 16, 10, 96, 162, 0, 25, 42, 180, 0, 7, 21, 4, 42]
abbrev dktX4_lift_2 : List UInt8 := dkwX4_lift_2 ++ dktX4_lift_3
def dkwX4_lift_1 : List UInt8 := [100, 184, 0, 68, 154, 0, 5, 2, 172, 42, 182, 0, 234, 16, 100, 16, 13, 27, 104, 96, 62, 29, 4, 96]
abbrev dktX4_lift_1 : List UInt8 := dkwX4_lift_1 ++ dktX4_lift_2
def dkwX4_lift_0 : List UInt8 := [27, 3, 5, 184, 0, 68, 153, 0, 25, 28, 3, 42, 180, 0, 7, 16, 100, 16, 13, 27, 104, 96, 46, 4]
abbrev dktX4_lift_0 : List UInt8 := dkwX4_lift_0 ++ dktX4_lift_1
theorem dksX4_lift_0 : cX4_lift.data.toList.drop 0 = dktX4_lift_0 := by decide +kernel
theorem dksX4_lift_1 : cX4_lift.data.toList.drop 24 = dktX4_lift_1 := dk_seg dksX4_lift_0 24 rfl rfl
theorem dksX4_lift_2 : cX4_lift.data.toList.drop 48 = dktX4_lift_2 := dk_seg dksX4_lift_1 24 rfl rfl
theorem dksX4_lift_3 : cX4_lift.data.toList.drop 70 = dktX4_lift_3 := dk_seg dksX4_lift_2 22 rfl rfl
theorem dksX4_lift_4 : cX4_lift.data.toList.drop 94 = dktX4_lift_4 := dk_seg dksX4_lift_3 24 rfl rfl
theorem dX4_lift_0 : decode cX4_lift 0 = .ok (.iload_n 1, 1) := dk_27 (dk_at dksX4_lift_0 0 rfl rfl)
theorem dX4_lift_1 : decode cX4_lift 1 = .ok (.iconst 0, 1) := dk_3 (dk_at dksX4_lift_0 1 rfl rfl)
theorem dX4_lift_2 : decode cX4_lift 2 = .ok (.iconst 2, 1) := dk_5 (dk_at dksX4_lift_0 2 rfl rfl)
theorem dX4_lift_3 : decode cX4_lift 3 = .ok (.invokestatic 68, 3) := dk_184 0 68 (dk_at dksX4_lift_0 3 rfl rfl)
theorem dX4_lift_6 : decode cX4_lift 6 = .ok (.ifCond .eq 25, 3) := dk_153 0 25 (dk_at dksX4_lift_0 6 rfl rfl)
theorem dX4_lift_9 : decode cX4_lift 9 = .ok (.iload_n 2, 1) := dk_28 (dk_at dksX4_lift_0 9 rfl rfl)
theorem dX4_lift_10 : decode cX4_lift 10 = .ok (.iconst 0, 1) := dk_3 (dk_at dksX4_lift_0 10 rfl rfl)
theorem dX4_lift_11 : decode cX4_lift 11 = .ok (.aload_n 0, 1) := dk_42 (dk_at dksX4_lift_0 11 rfl rfl)
theorem dX4_lift_12 : decode cX4_lift 12 = .ok (.getfield 7, 3) := dk_180 0 7 (dk_at dksX4_lift_0 12 rfl rfl)
theorem dX4_lift_15 : decode cX4_lift 15 = .ok (.bipush 100, 2) := dk_16 100 (dk_at dksX4_lift_0 15 rfl rfl)
theorem dX4_lift_17 : decode cX4_lift 17 = .ok (.bipush 13, 2) := dk_16 13 (dk_at dksX4_lift_0 17 rfl rfl)
theorem dX4_lift_19 : decode cX4_lift 19 = .ok (.iload_n 1, 1) := dk_27 (dk_at dksX4_lift_0 19 rfl rfl)
theorem dX4_lift_20 : decode cX4_lift 20 = .ok (.imul, 1) := dk_104 (dk_at dksX4_lift_0 20 rfl rfl)
theorem dX4_lift_21 : decode cX4_lift 21 = .ok (.iadd, 1) := dk_96 (dk_at dksX4_lift_0 21 rfl rfl)
theorem dX4_lift_22 : decode cX4_lift 22 = .ok (.iaload, 1) := dk_46 (dk_at dksX4_lift_0 22 rfl rfl)
theorem dX4_lift_23 : decode cX4_lift 23 = .ok (.iconst 1, 1) := dk_4 (dk_at dksX4_lift_0 23 rfl rfl)
theorem dX4_lift_24 : decode cX4_lift 24 = .ok (.isub, 1) := dk_100 (dk_at dksX4_lift_1 0 rfl rfl)
theorem dX4_lift_25 : decode cX4_lift 25 = .ok (.invokestatic 68, 3) := dk_184 0 68 (dk_at dksX4_lift_1 1 rfl rfl)
theorem dX4_lift_28 : decode cX4_lift 28 = .ok (.ifCond .ne 5, 3) := dk_154 0 5 (dk_at dksX4_lift_1 4 rfl rfl)
theorem dX4_lift_31 : decode cX4_lift 31 = .ok (.iconst (-1), 1) := dk_2 (dk_at dksX4_lift_1 7 rfl rfl)
theorem dX4_lift_32 : decode cX4_lift 32 = .ok (.ireturn, 1) := dk_172 (dk_at dksX4_lift_1 8 rfl rfl)
theorem dX4_lift_33 : decode cX4_lift 33 = .ok (.aload_n 0, 1) := dk_42 (dk_at dksX4_lift_1 9 rfl rfl)
theorem dX4_lift_34 : decode cX4_lift 34 = .ok (.invokevirtual 234, 3) := dk_182 0 234 (dk_at dksX4_lift_1 10 rfl rfl)
theorem dX4_lift_37 : decode cX4_lift 37 = .ok (.bipush 100, 2) := dk_16 100 (dk_at dksX4_lift_1 13 rfl rfl)
theorem dX4_lift_39 : decode cX4_lift 39 = .ok (.bipush 13, 2) := dk_16 13 (dk_at dksX4_lift_1 15 rfl rfl)
theorem dX4_lift_41 : decode cX4_lift 41 = .ok (.iload_n 1, 1) := dk_27 (dk_at dksX4_lift_1 17 rfl rfl)
theorem dX4_lift_42 : decode cX4_lift 42 = .ok (.imul, 1) := dk_104 (dk_at dksX4_lift_1 18 rfl rfl)
theorem dX4_lift_43 : decode cX4_lift 43 = .ok (.iadd, 1) := dk_96 (dk_at dksX4_lift_1 19 rfl rfl)
theorem dX4_lift_44 : decode cX4_lift 44 = .ok (.istore_n 3, 1) := dk_62 (dk_at dksX4_lift_1 20 rfl rfl)
theorem dX4_lift_45 : decode cX4_lift 45 = .ok (.iload_n 3, 1) := dk_29 (dk_at dksX4_lift_1 21 rfl rfl)
theorem dX4_lift_46 : decode cX4_lift 46 = .ok (.iconst 1, 1) := dk_4 (dk_at dksX4_lift_1 22 rfl rfl)
theorem dX4_lift_47 : decode cX4_lift 47 = .ok (.iadd, 1) := dk_96 (dk_at dksX4_lift_1 23 rfl rfl)
theorem dX4_lift_48 : decode cX4_lift 48 = .ok (.iconst 3, 1) := dk_6 (dk_at dksX4_lift_2 0 rfl rfl)
theorem dX4_lift_49 : decode cX4_lift 49 = .ok (.iload_n 2, 1) := dk_28 (dk_at dksX4_lift_2 1 rfl rfl)
theorem dX4_lift_50 : decode cX4_lift 50 = .ok (.imul, 1) := dk_104 (dk_at dksX4_lift_2 2 rfl rfl)
theorem dX4_lift_51 : decode cX4_lift 51 = .ok (.iadd, 1) := dk_96 (dk_at dksX4_lift_2 3 rfl rfl)
theorem dX4_lift_52 : decode cX4_lift 52 = .ok (.istore 4, 2) := dk_54 4 (dk_at dksX4_lift_2 4 rfl rfl)
theorem dX4_lift_54 : decode cX4_lift 54 = .ok (.iload 4, 2) := dk_21 4 (dk_at dksX4_lift_2 6 rfl rfl)
theorem dX4_lift_56 : decode cX4_lift 56 = .ok (.iload_n 3, 1) := dk_29 (dk_at dksX4_lift_2 8 rfl rfl)
theorem dX4_lift_57 : decode cX4_lift 57 = .ok (.bipush 10, 2) := dk_16 10 (dk_at dksX4_lift_2 9 rfl rfl)
theorem dX4_lift_59 : decode cX4_lift 59 = .ok (.iadd, 1) := dk_96 (dk_at dksX4_lift_2 11 rfl rfl)
theorem dX4_lift_60 : decode cX4_lift 60 = .ok (.if_icmp .ge 25, 3) := dk_162 0 25 (dk_at dksX4_lift_2 12 rfl rfl)
theorem dX4_lift_63 : decode cX4_lift 63 = .ok (.aload_n 0, 1) := dk_42 (dk_at dksX4_lift_2 15 rfl rfl)
theorem dX4_lift_64 : decode cX4_lift 64 = .ok (.getfield 7, 3) := dk_180 0 7 (dk_at dksX4_lift_2 16 rfl rfl)
theorem dX4_lift_67 : decode cX4_lift 67 = .ok (.iload 4, 2) := dk_21 4 (dk_at dksX4_lift_2 19 rfl rfl)
theorem dX4_lift_69 : decode cX4_lift 69 = .ok (.aload_n 0, 1) := dk_42 (dk_at dksX4_lift_2 21 rfl rfl)
theorem dX4_lift_70 : decode cX4_lift 70 = .ok (.getfield 7, 3) := dk_180 0 7 (dk_at dksX4_lift_3 0 rfl rfl)
theorem dX4_lift_73 : decode cX4_lift 73 = .ok (.iload 4, 2) := dk_21 4 (dk_at dksX4_lift_3 3 rfl rfl)
theorem dX4_lift_75 : decode cX4_lift 75 = .ok (.iconst 3, 1) := dk_6 (dk_at dksX4_lift_3 5 rfl rfl)
theorem dX4_lift_76 : decode cX4_lift 76 = .ok (.iadd, 1) := dk_96 (dk_at dksX4_lift_3 6 rfl rfl)
theorem dX4_lift_77 : decode cX4_lift 77 = .ok (.iaload, 1) := dk_46 (dk_at dksX4_lift_3 7 rfl rfl)
theorem dX4_lift_78 : decode cX4_lift 78 = .ok (.iastore, 1) := dk_79 (dk_at dksX4_lift_3 8 rfl rfl)
theorem dX4_lift_79 : decode cX4_lift 79 = .ok (.iinc 4 1, 3) := dk_132 4 1 (dk_at dksX4_lift_3 9 rfl rfl)
theorem dX4_lift_82 : decode cX4_lift 82 = .ok (.goto (-28), 3) := dk_167 255 228 (dk_at dksX4_lift_3 12 rfl rfl)
theorem dX4_lift_85 : decode cX4_lift 85 = .ok (.aload_n 0, 1) := dk_42 (dk_at dksX4_lift_3 15 rfl rfl)
theorem dX4_lift_86 : decode cX4_lift 86 = .ok (.getfield 7, 3) := dk_180 0 7 (dk_at dksX4_lift_3 16 rfl rfl)
theorem dX4_lift_89 : decode cX4_lift 89 = .ok (.iload_n 3, 1) := dk_29 (dk_at dksX4_lift_3 19 rfl rfl)
theorem dX4_lift_90 : decode cX4_lift 90 = .ok (.dup2, 1) := dk_92 (dk_at dksX4_lift_3 20 rfl rfl)
theorem dX4_lift_91 : decode cX4_lift 91 = .ok (.iaload, 1) := dk_46 (dk_at dksX4_lift_3 21 rfl rfl)
theorem dX4_lift_92 : decode cX4_lift 92 = .ok (.iconst 1, 1) := dk_4 (dk_at dksX4_lift_3 22 rfl rfl)
theorem dX4_lift_93 : decode cX4_lift 93 = .ok (.isub, 1) := dk_100 (dk_at dksX4_lift_3 23 rfl rfl)
theorem dX4_lift_94 : decode cX4_lift 94 = .ok (.iastore, 1) := dk_79 (dk_at dksX4_lift_4 0 rfl rfl)
theorem dX4_lift_95 : decode cX4_lift 95 = .ok (.aload_n 0, 1) := dk_42 (dk_at dksX4_lift_4 1 rfl rfl)
theorem dX4_lift_96 : decode cX4_lift 96 = .ok (.getfield 7, 3) := dk_180 0 7 (dk_at dksX4_lift_4 2 rfl rfl)
theorem dX4_lift_99 : decode cX4_lift 99 = .ok (.iload_n 3, 1) := dk_29 (dk_at dksX4_lift_4 5 rfl rfl)
theorem dX4_lift_100 : decode cX4_lift 100 = .ok (.iaload, 1) := dk_46 (dk_at dksX4_lift_4 6 rfl rfl)
theorem dX4_lift_101 : decode cX4_lift 101 = .ok (.ireturn, 1) := dk_172 (dk_at dksX4_lift_4 7 rfl rfl)
def dkwX4_net_4 : List UInt8 := [46, 21, 5, 100, 79, 21, 5, 172]
abbrev dktX4_net_4 : List UInt8 := dkwX4_net_4 ++ []
def dkwX4_net_3 : List UInt8 := [104, 96, 28, 96, 92, 46, 21, 5, 100, 79, 42, 180, 0, 7, 16, 64, 16, 6, 28, 104, 96, 27, 96, 92]
abbrev dktX4_net_3 : List UInt8 := dkwX4_net_3 ++ dktX4_net_4
def dkwX4_net_2 : List UInt8 := [21, 4, 54, 5, 21, 5, 154, 0, 5, 2, 172, 42, 182, 0, 234, 42, 180, 0, 7, 16, 64, 16, 6, 27]
abbrev dktX4_net_2 : List UInt8 := dkwX4_net_2 ++ dktX4_net_3
def dkwX4_net_1 : List UInt8 := [27, 28, 182, 0, 181, 62, 42, 28, 27, 182, 0, 181, 54, 4, 29, 21, 4, 162, 0, 7, 29, 167, 0, 5]
abbrev dktX4_net_1 : List UInt8 := dkwX4_net_1 ++ dktX4_net_2
def dkwX4_net_0 : List UInt8 := [42, 27, 182, 0, 237, 153, 0, 16, 42, 28, 182, 0, 237, 153, 0, 8, 27, 28, 160, 0, 5, 2, 172, 42]
abbrev dktX4_net_0 : List UInt8 := dkwX4_net_0 ++ dktX4_net_1
theorem dksX4_net_0 : cX4_net.data.toList.drop 0 = dktX4_net_0 := by decide +kernel
theorem dksX4_net_1 : cX4_net.data.toList.drop 24 = dktX4_net_1 := dk_seg dksX4_net_0 24 rfl rfl
theorem dksX4_net_2 : cX4_net.data.toList.drop 48 = dktX4_net_2 := dk_seg dksX4_net_1 24 rfl rfl
theorem dksX4_net_3 : cX4_net.data.toList.drop 72 = dktX4_net_3 := dk_seg dksX4_net_2 24 rfl rfl
theorem dksX4_net_4 : cX4_net.data.toList.drop 96 = dktX4_net_4 := dk_seg dksX4_net_3 24 rfl rfl
theorem dX4_net_0 : decode cX4_net 0 = .ok (.aload_n 0, 1) := dk_42 (dk_at dksX4_net_0 0 rfl rfl)
theorem dX4_net_1 : decode cX4_net 1 = .ok (.iload_n 1, 1) := dk_27 (dk_at dksX4_net_0 1 rfl rfl)
theorem dX4_net_2 : decode cX4_net 2 = .ok (.invokevirtual 237, 3) := dk_182 0 237 (dk_at dksX4_net_0 2 rfl rfl)
theorem dX4_net_5 : decode cX4_net 5 = .ok (.ifCond .eq 16, 3) := dk_153 0 16 (dk_at dksX4_net_0 5 rfl rfl)
theorem dX4_net_8 : decode cX4_net 8 = .ok (.aload_n 0, 1) := dk_42 (dk_at dksX4_net_0 8 rfl rfl)
theorem dX4_net_9 : decode cX4_net 9 = .ok (.iload_n 2, 1) := dk_28 (dk_at dksX4_net_0 9 rfl rfl)
theorem dX4_net_10 : decode cX4_net 10 = .ok (.invokevirtual 237, 3) := dk_182 0 237 (dk_at dksX4_net_0 10 rfl rfl)
theorem dX4_net_13 : decode cX4_net 13 = .ok (.ifCond .eq 8, 3) := dk_153 0 8 (dk_at dksX4_net_0 13 rfl rfl)
theorem dX4_net_16 : decode cX4_net 16 = .ok (.iload_n 1, 1) := dk_27 (dk_at dksX4_net_0 16 rfl rfl)
theorem dX4_net_17 : decode cX4_net 17 = .ok (.iload_n 2, 1) := dk_28 (dk_at dksX4_net_0 17 rfl rfl)
theorem dX4_net_18 : decode cX4_net 18 = .ok (.if_icmp .ne 5, 3) := dk_160 0 5 (dk_at dksX4_net_0 18 rfl rfl)
theorem dX4_net_21 : decode cX4_net 21 = .ok (.iconst (-1), 1) := dk_2 (dk_at dksX4_net_0 21 rfl rfl)
theorem dX4_net_22 : decode cX4_net 22 = .ok (.ireturn, 1) := dk_172 (dk_at dksX4_net_0 22 rfl rfl)
theorem dX4_net_23 : decode cX4_net 23 = .ok (.aload_n 0, 1) := dk_42 (dk_at dksX4_net_0 23 rfl rfl)
theorem dX4_net_24 : decode cX4_net 24 = .ok (.iload_n 1, 1) := dk_27 (dk_at dksX4_net_1 0 rfl rfl)
theorem dX4_net_25 : decode cX4_net 25 = .ok (.iload_n 2, 1) := dk_28 (dk_at dksX4_net_1 1 rfl rfl)
theorem dX4_net_26 : decode cX4_net 26 = .ok (.invokevirtual 181, 3) := dk_182 0 181 (dk_at dksX4_net_1 2 rfl rfl)
theorem dX4_net_29 : decode cX4_net 29 = .ok (.istore_n 3, 1) := dk_62 (dk_at dksX4_net_1 5 rfl rfl)
theorem dX4_net_30 : decode cX4_net 30 = .ok (.aload_n 0, 1) := dk_42 (dk_at dksX4_net_1 6 rfl rfl)
theorem dX4_net_31 : decode cX4_net 31 = .ok (.iload_n 2, 1) := dk_28 (dk_at dksX4_net_1 7 rfl rfl)
theorem dX4_net_32 : decode cX4_net 32 = .ok (.iload_n 1, 1) := dk_27 (dk_at dksX4_net_1 8 rfl rfl)
theorem dX4_net_33 : decode cX4_net 33 = .ok (.invokevirtual 181, 3) := dk_182 0 181 (dk_at dksX4_net_1 9 rfl rfl)
theorem dX4_net_36 : decode cX4_net 36 = .ok (.istore 4, 2) := dk_54 4 (dk_at dksX4_net_1 12 rfl rfl)
theorem dX4_net_38 : decode cX4_net 38 = .ok (.iload_n 3, 1) := dk_29 (dk_at dksX4_net_1 14 rfl rfl)
theorem dX4_net_39 : decode cX4_net 39 = .ok (.iload 4, 2) := dk_21 4 (dk_at dksX4_net_1 15 rfl rfl)
theorem dX4_net_41 : decode cX4_net 41 = .ok (.if_icmp .ge 7, 3) := dk_162 0 7 (dk_at dksX4_net_1 17 rfl rfl)
theorem dX4_net_44 : decode cX4_net 44 = .ok (.iload_n 3, 1) := dk_29 (dk_at dksX4_net_1 20 rfl rfl)
theorem dX4_net_45 : decode cX4_net 45 = .ok (.goto 5, 3) := dk_167 0 5 (dk_at dksX4_net_1 21 rfl rfl)
theorem dX4_net_48 : decode cX4_net 48 = .ok (.iload 4, 2) := dk_21 4 (dk_at dksX4_net_2 0 rfl rfl)
theorem dX4_net_50 : decode cX4_net 50 = .ok (.istore 5, 2) := dk_54 5 (dk_at dksX4_net_2 2 rfl rfl)
theorem dX4_net_52 : decode cX4_net 52 = .ok (.iload 5, 2) := dk_21 5 (dk_at dksX4_net_2 4 rfl rfl)
theorem dX4_net_54 : decode cX4_net 54 = .ok (.ifCond .ne 5, 3) := dk_154 0 5 (dk_at dksX4_net_2 6 rfl rfl)
theorem dX4_net_57 : decode cX4_net 57 = .ok (.iconst (-1), 1) := dk_2 (dk_at dksX4_net_2 9 rfl rfl)
theorem dX4_net_58 : decode cX4_net 58 = .ok (.ireturn, 1) := dk_172 (dk_at dksX4_net_2 10 rfl rfl)
theorem dX4_net_59 : decode cX4_net 59 = .ok (.aload_n 0, 1) := dk_42 (dk_at dksX4_net_2 11 rfl rfl)
theorem dX4_net_60 : decode cX4_net 60 = .ok (.invokevirtual 234, 3) := dk_182 0 234 (dk_at dksX4_net_2 12 rfl rfl)
theorem dX4_net_63 : decode cX4_net 63 = .ok (.aload_n 0, 1) := dk_42 (dk_at dksX4_net_2 15 rfl rfl)
theorem dX4_net_64 : decode cX4_net 64 = .ok (.getfield 7, 3) := dk_180 0 7 (dk_at dksX4_net_2 16 rfl rfl)
theorem dX4_net_67 : decode cX4_net 67 = .ok (.bipush 64, 2) := dk_16 64 (dk_at dksX4_net_2 19 rfl rfl)
theorem dX4_net_69 : decode cX4_net 69 = .ok (.bipush 6, 2) := dk_16 6 (dk_at dksX4_net_2 21 rfl rfl)
theorem dX4_net_71 : decode cX4_net 71 = .ok (.iload_n 1, 1) := dk_27 (dk_at dksX4_net_2 23 rfl rfl)
theorem dX4_net_72 : decode cX4_net 72 = .ok (.imul, 1) := dk_104 (dk_at dksX4_net_3 0 rfl rfl)
theorem dX4_net_73 : decode cX4_net 73 = .ok (.iadd, 1) := dk_96 (dk_at dksX4_net_3 1 rfl rfl)
theorem dX4_net_74 : decode cX4_net 74 = .ok (.iload_n 2, 1) := dk_28 (dk_at dksX4_net_3 2 rfl rfl)
theorem dX4_net_75 : decode cX4_net 75 = .ok (.iadd, 1) := dk_96 (dk_at dksX4_net_3 3 rfl rfl)
theorem dX4_net_76 : decode cX4_net 76 = .ok (.dup2, 1) := dk_92 (dk_at dksX4_net_3 4 rfl rfl)
theorem dX4_net_77 : decode cX4_net 77 = .ok (.iaload, 1) := dk_46 (dk_at dksX4_net_3 5 rfl rfl)
theorem dX4_net_78 : decode cX4_net 78 = .ok (.iload 5, 2) := dk_21 5 (dk_at dksX4_net_3 6 rfl rfl)
theorem dX4_net_80 : decode cX4_net 80 = .ok (.isub, 1) := dk_100 (dk_at dksX4_net_3 8 rfl rfl)
theorem dX4_net_81 : decode cX4_net 81 = .ok (.iastore, 1) := dk_79 (dk_at dksX4_net_3 9 rfl rfl)
theorem dX4_net_82 : decode cX4_net 82 = .ok (.aload_n 0, 1) := dk_42 (dk_at dksX4_net_3 10 rfl rfl)
theorem dX4_net_83 : decode cX4_net 83 = .ok (.getfield 7, 3) := dk_180 0 7 (dk_at dksX4_net_3 11 rfl rfl)
theorem dX4_net_86 : decode cX4_net 86 = .ok (.bipush 64, 2) := dk_16 64 (dk_at dksX4_net_3 14 rfl rfl)
theorem dX4_net_88 : decode cX4_net 88 = .ok (.bipush 6, 2) := dk_16 6 (dk_at dksX4_net_3 16 rfl rfl)
theorem dX4_net_90 : decode cX4_net 90 = .ok (.iload_n 2, 1) := dk_28 (dk_at dksX4_net_3 18 rfl rfl)
theorem dX4_net_91 : decode cX4_net 91 = .ok (.imul, 1) := dk_104 (dk_at dksX4_net_3 19 rfl rfl)
theorem dX4_net_92 : decode cX4_net 92 = .ok (.iadd, 1) := dk_96 (dk_at dksX4_net_3 20 rfl rfl)
theorem dX4_net_93 : decode cX4_net 93 = .ok (.iload_n 1, 1) := dk_27 (dk_at dksX4_net_3 21 rfl rfl)
theorem dX4_net_94 : decode cX4_net 94 = .ok (.iadd, 1) := dk_96 (dk_at dksX4_net_3 22 rfl rfl)
theorem dX4_net_95 : decode cX4_net 95 = .ok (.dup2, 1) := dk_92 (dk_at dksX4_net_3 23 rfl rfl)
theorem dX4_net_96 : decode cX4_net 96 = .ok (.iaload, 1) := dk_46 (dk_at dksX4_net_4 0 rfl rfl)
theorem dX4_net_97 : decode cX4_net 97 = .ok (.iload 5, 2) := dk_21 5 (dk_at dksX4_net_4 1 rfl rfl)
theorem dX4_net_99 : decode cX4_net 99 = .ok (.isub, 1) := dk_100 (dk_at dksX4_net_4 3 rfl rfl)
theorem dX4_net_100 : decode cX4_net 100 = .ok (.iastore, 1) := dk_79 (dk_at dksX4_net_4 4 rfl rfl)
theorem dX4_net_101 : decode cX4_net 101 = .ok (.iload 5, 2) := dk_21 5 (dk_at dksX4_net_4 5 rfl rfl)
theorem dX4_net_103 : decode cX4_net 103 = .ok (.ireturn, 1) := dk_172 (dk_at dksX4_net_4 7 rfl rfl)
def dkwX4_merge_10 : List UInt8 := [27, 162, 0, 9, 27, 4, 100, 167, 0, 4, 27, 172]
abbrev dktX4_merge_10 : List UInt8 := dkwX4_merge_10 ++ []
def dkwX4_merge_9 : List UInt8 := [96, 17, 3, 231, 184, 0, 246, 167, 0, 4, 3, 79, 132, 3, 1, 167, 255, 146, 42, 28, 182, 0, 249, 28]
abbrev dktX4_merge_9 : List UInt8 := dkwX4_merge_9 ++ dktX4_merge_10
def dkwX4_merge_8 : List UInt8 := [16, 6, 29, 104, 96, 27, 96, 21, 4, 153, 0, 25, 42, 29, 27, 182, 0, 181, 42, 29, 28, 182, 0, 181]
abbrev dktX4_merge_8 : List UInt8 := dkwX4_merge_8 ++ dktX4_merge_9
def dkwX4_merge_7 : List UInt8 := [28, 29, 182, 0, 181, 96, 17, 3, 231, 184, 0, 246, 167, 0, 4, 3, 79, 42, 180, 0, 7, 16, 64]
abbrev dktX4_merge_7 : List UInt8 := dkwX4_merge_7 ++ dktX4_merge_8
def dkwX4_merge_6 : List UInt8 := [180, 0, 7, 16, 64, 16, 6, 27, 104, 96, 29, 96, 21, 4, 153, 0, 25, 42, 27, 29, 182, 0, 181, 42]
abbrev dktX4_merge_6 : List UInt8 := dkwX4_merge_6 ++ dktX4_merge_7
def dkwX4_merge_5 : List UInt8 := [29, 16, 6, 162, 0, 110, 29, 27, 159, 0, 12, 29, 28, 159, 0, 7, 4, 167, 0, 4, 3, 54, 4, 42]
abbrev dktX4_merge_5 : List UInt8 := dkwX4_merge_5 ++ dktX4_merge_6
def dkwX4_merge_4 : List UInt8 := [182, 0, 72, 42, 28, 29, 182, 0, 72, 96, 16, 60, 184, 0, 246, 79, 132, 3, 1, 167, 255, 217, 3, 62]
abbrev dktX4_merge_4 : List UInt8 := dkwX4_merge_4 ++ dktX4_merge_5
def dkwX4_merge_3 : List UInt8 := [3, 62, 29, 7, 162, 0, 40, 42, 180, 0, 7, 16, 40, 7, 27, 104, 96, 29, 96, 42, 27, 29]
abbrev dktX4_merge_3 : List UInt8 := dkwX4_merge_3 ++ dktX4_merge_4
def dkwX4_merge_2 : List UInt8 := [29, 182, 0, 175, 42, 28, 29, 182, 0, 175, 96, 17, 39, 15, 184, 0, 246, 79, 132, 3, 1, 167, 255, 216]
abbrev dktX4_merge_2 : List UInt8 := dkwX4_merge_2 ++ dktX4_merge_3
def dkwX4_merge_1 : List UInt8 := [182, 0, 234, 3, 62, 29, 5, 163, 0, 41, 42, 180, 0, 7, 16, 10, 8, 27, 104, 96, 29, 96, 42, 27]
abbrev dktX4_merge_1 : List UInt8 := dkwX4_merge_1 ++ dktX4_merge_2
def dkwX4_merge_0 : List UInt8 := [42, 27, 182, 0, 237, 153, 0, 16, 42, 28, 182, 0, 237, 153, 0, 8, 27, 28, 160, 0, 5, 2, 172, 42]
abbrev dktX4_merge_0 : List UInt8 := dkwX4_merge_0 ++ dktX4_merge_1
theorem dksX4_merge_0 : cX4_merge.data.toList.drop 0 = dktX4_merge_0 := by decide +kernel
theorem dksX4_merge_1 : cX4_merge.data.toList.drop 24 = dktX4_merge_1 := dk_seg dksX4_merge_0 24 rfl rfl
theorem dksX4_merge_2 : cX4_merge.data.toList.drop 48 = dktX4_merge_2 := dk_seg dksX4_merge_1 24 rfl rfl
theorem dksX4_merge_3 : cX4_merge.data.toList.drop 72 = dktX4_merge_3 := dk_seg dksX4_merge_2 24 rfl rfl
theorem dksX4_merge_4 : cX4_merge.data.toList.drop 94 = dktX4_merge_4 := dk_seg dksX4_merge_3 22 rfl rfl
theorem dksX4_merge_5 : cX4_merge.data.toList.drop 118 = dktX4_merge_5 := dk_seg dksX4_merge_4 24 rfl rfl
theorem dksX4_merge_6 : cX4_merge.data.toList.drop 142 = dktX4_merge_6 := dk_seg dksX4_merge_5 24 rfl rfl
theorem dksX4_merge_7 : cX4_merge.data.toList.drop 166 = dktX4_merge_7 := dk_seg dksX4_merge_6 24 rfl rfl
theorem dksX4_merge_8 : cX4_merge.data.toList.drop 189 = dktX4_merge_8 := dk_seg dksX4_merge_7 23 rfl rfl
theorem dksX4_merge_9 : cX4_merge.data.toList.drop 213 = dktX4_merge_9 := dk_seg dksX4_merge_8 24 rfl rfl
theorem dksX4_merge_10 : cX4_merge.data.toList.drop 237 = dktX4_merge_10 := dk_seg dksX4_merge_9 24 rfl rfl
theorem dX4_merge_0 : decode cX4_merge 0 = .ok (.aload_n 0, 1) := dk_42 (dk_at dksX4_merge_0 0 rfl rfl)
theorem dX4_merge_1 : decode cX4_merge 1 = .ok (.iload_n 1, 1) := dk_27 (dk_at dksX4_merge_0 1 rfl rfl)
theorem dX4_merge_2 : decode cX4_merge 2 = .ok (.invokevirtual 237, 3) := dk_182 0 237 (dk_at dksX4_merge_0 2 rfl rfl)
theorem dX4_merge_5 : decode cX4_merge 5 = .ok (.ifCond .eq 16, 3) := dk_153 0 16 (dk_at dksX4_merge_0 5 rfl rfl)
theorem dX4_merge_8 : decode cX4_merge 8 = .ok (.aload_n 0, 1) := dk_42 (dk_at dksX4_merge_0 8 rfl rfl)
theorem dX4_merge_9 : decode cX4_merge 9 = .ok (.iload_n 2, 1) := dk_28 (dk_at dksX4_merge_0 9 rfl rfl)
theorem dX4_merge_10 : decode cX4_merge 10 = .ok (.invokevirtual 237, 3) := dk_182 0 237 (dk_at dksX4_merge_0 10 rfl rfl)
theorem dX4_merge_13 : decode cX4_merge 13 = .ok (.ifCond .eq 8, 3) := dk_153 0 8 (dk_at dksX4_merge_0 13 rfl rfl)
theorem dX4_merge_16 : decode cX4_merge 16 = .ok (.iload_n 1, 1) := dk_27 (dk_at dksX4_merge_0 16 rfl rfl)
theorem dX4_merge_17 : decode cX4_merge 17 = .ok (.iload_n 2, 1) := dk_28 (dk_at dksX4_merge_0 17 rfl rfl)
theorem dX4_merge_18 : decode cX4_merge 18 = .ok (.if_icmp .ne 5, 3) := dk_160 0 5 (dk_at dksX4_merge_0 18 rfl rfl)
theorem dX4_merge_21 : decode cX4_merge 21 = .ok (.iconst (-1), 1) := dk_2 (dk_at dksX4_merge_0 21 rfl rfl)
theorem dX4_merge_22 : decode cX4_merge 22 = .ok (.ireturn, 1) := dk_172 (dk_at dksX4_merge_0 22 rfl rfl)
theorem dX4_merge_23 : decode cX4_merge 23 = .ok (.aload_n 0, 1) := dk_42 (dk_at dksX4_merge_0 23 rfl rfl)
theorem dX4_merge_24 : decode cX4_merge 24 = .ok (.invokevirtual 234, 3) := dk_182 0 234 (dk_at dksX4_merge_1 0 rfl rfl)
theorem dX4_merge_27 : decode cX4_merge 27 = .ok (.iconst 0, 1) := dk_3 (dk_at dksX4_merge_1 3 rfl rfl)
theorem dX4_merge_28 : decode cX4_merge 28 = .ok (.istore_n 3, 1) := dk_62 (dk_at dksX4_merge_1 4 rfl rfl)
theorem dX4_merge_29 : decode cX4_merge 29 = .ok (.iload_n 3, 1) := dk_29 (dk_at dksX4_merge_1 5 rfl rfl)
theorem dX4_merge_30 : decode cX4_merge 30 = .ok (.iconst 2, 1) := dk_5 (dk_at dksX4_merge_1 6 rfl rfl)
theorem dX4_merge_31 : decode cX4_merge 31 = .ok (.if_icmp .gt 41, 3) := dk_163 0 41 (dk_at dksX4_merge_1 7 rfl rfl)
theorem dX4_merge_34 : decode cX4_merge 34 = .ok (.aload_n 0, 1) := dk_42 (dk_at dksX4_merge_1 10 rfl rfl)
theorem dX4_merge_35 : decode cX4_merge 35 = .ok (.getfield 7, 3) := dk_180 0 7 (dk_at dksX4_merge_1 11 rfl rfl)
theorem dX4_merge_38 : decode cX4_merge 38 = .ok (.bipush 10, 2) := dk_16 10 (dk_at dksX4_merge_1 14 rfl rfl)
theorem dX4_merge_40 : decode cX4_merge 40 = .ok (.iconst 5, 1) := dk_8 (dk_at dksX4_merge_1 16 rfl rfl)
theorem dX4_merge_41 : decode cX4_merge 41 = .ok (.iload_n 1, 1) := dk_27 (dk_at dksX4_merge_1 17 rfl rfl)
theorem dX4_merge_42 : decode cX4_merge 42 = .ok (.imul, 1) := dk_104 (dk_at dksX4_merge_1 18 rfl rfl)
theorem dX4_merge_43 : decode cX4_merge 43 = .ok (.iadd, 1) := dk_96 (dk_at dksX4_merge_1 19 rfl rfl)
theorem dX4_merge_44 : decode cX4_merge 44 = .ok (.iload_n 3, 1) := dk_29 (dk_at dksX4_merge_1 20 rfl rfl)
theorem dX4_merge_45 : decode cX4_merge 45 = .ok (.iadd, 1) := dk_96 (dk_at dksX4_merge_1 21 rfl rfl)
theorem dX4_merge_46 : decode cX4_merge 46 = .ok (.aload_n 0, 1) := dk_42 (dk_at dksX4_merge_1 22 rfl rfl)
theorem dX4_merge_47 : decode cX4_merge 47 = .ok (.iload_n 1, 1) := dk_27 (dk_at dksX4_merge_1 23 rfl rfl)
theorem dX4_merge_48 : decode cX4_merge 48 = .ok (.iload_n 3, 1) := dk_29 (dk_at dksX4_merge_2 0 rfl rfl)
theorem dX4_merge_49 : decode cX4_merge 49 = .ok (.invokevirtual 175, 3) := dk_182 0 175 (dk_at dksX4_merge_2 1 rfl rfl)
theorem dX4_merge_52 : decode cX4_merge 52 = .ok (.aload_n 0, 1) := dk_42 (dk_at dksX4_merge_2 4 rfl rfl)
theorem dX4_merge_53 : decode cX4_merge 53 = .ok (.iload_n 2, 1) := dk_28 (dk_at dksX4_merge_2 5 rfl rfl)
theorem dX4_merge_54 : decode cX4_merge 54 = .ok (.iload_n 3, 1) := dk_29 (dk_at dksX4_merge_2 6 rfl rfl)
theorem dX4_merge_55 : decode cX4_merge 55 = .ok (.invokevirtual 175, 3) := dk_182 0 175 (dk_at dksX4_merge_2 7 rfl rfl)
theorem dX4_merge_58 : decode cX4_merge 58 = .ok (.iadd, 1) := dk_96 (dk_at dksX4_merge_2 10 rfl rfl)
theorem dX4_merge_59 : decode cX4_merge 59 = .ok (.sipush 9999, 3) := dk_17 39 15 (dk_at dksX4_merge_2 11 rfl rfl)
theorem dX4_merge_62 : decode cX4_merge 62 = .ok (.invokestatic 246, 3) := dk_184 0 246 (dk_at dksX4_merge_2 14 rfl rfl)
theorem dX4_merge_65 : decode cX4_merge 65 = .ok (.iastore, 1) := dk_79 (dk_at dksX4_merge_2 17 rfl rfl)
theorem dX4_merge_66 : decode cX4_merge 66 = .ok (.iinc 3 1, 3) := dk_132 3 1 (dk_at dksX4_merge_2 18 rfl rfl)
theorem dX4_merge_69 : decode cX4_merge 69 = .ok (.goto (-40), 3) := dk_167 255 216 (dk_at dksX4_merge_2 21 rfl rfl)
theorem dX4_merge_72 : decode cX4_merge 72 = .ok (.iconst 0, 1) := dk_3 (dk_at dksX4_merge_3 0 rfl rfl)
theorem dX4_merge_73 : decode cX4_merge 73 = .ok (.istore_n 3, 1) := dk_62 (dk_at dksX4_merge_3 1 rfl rfl)
theorem dX4_merge_74 : decode cX4_merge 74 = .ok (.iload_n 3, 1) := dk_29 (dk_at dksX4_merge_3 2 rfl rfl)
theorem dX4_merge_75 : decode cX4_merge 75 = .ok (.iconst 4, 1) := dk_7 (dk_at dksX4_merge_3 3 rfl rfl)
theorem dX4_merge_76 : decode cX4_merge 76 = .ok (.if_icmp .ge 40, 3) := dk_162 0 40 (dk_at dksX4_merge_3 4 rfl rfl)
theorem dX4_merge_79 : decode cX4_merge 79 = .ok (.aload_n 0, 1) := dk_42 (dk_at dksX4_merge_3 7 rfl rfl)
theorem dX4_merge_80 : decode cX4_merge 80 = .ok (.getfield 7, 3) := dk_180 0 7 (dk_at dksX4_merge_3 8 rfl rfl)
theorem dX4_merge_83 : decode cX4_merge 83 = .ok (.bipush 40, 2) := dk_16 40 (dk_at dksX4_merge_3 11 rfl rfl)
theorem dX4_merge_85 : decode cX4_merge 85 = .ok (.iconst 4, 1) := dk_7 (dk_at dksX4_merge_3 13 rfl rfl)
theorem dX4_merge_86 : decode cX4_merge 86 = .ok (.iload_n 1, 1) := dk_27 (dk_at dksX4_merge_3 14 rfl rfl)
theorem dX4_merge_87 : decode cX4_merge 87 = .ok (.imul, 1) := dk_104 (dk_at dksX4_merge_3 15 rfl rfl)
theorem dX4_merge_88 : decode cX4_merge 88 = .ok (.iadd, 1) := dk_96 (dk_at dksX4_merge_3 16 rfl rfl)
theorem dX4_merge_89 : decode cX4_merge 89 = .ok (.iload_n 3, 1) := dk_29 (dk_at dksX4_merge_3 17 rfl rfl)
theorem dX4_merge_90 : decode cX4_merge 90 = .ok (.iadd, 1) := dk_96 (dk_at dksX4_merge_3 18 rfl rfl)
theorem dX4_merge_91 : decode cX4_merge 91 = .ok (.aload_n 0, 1) := dk_42 (dk_at dksX4_merge_3 19 rfl rfl)
theorem dX4_merge_92 : decode cX4_merge 92 = .ok (.iload_n 1, 1) := dk_27 (dk_at dksX4_merge_3 20 rfl rfl)
theorem dX4_merge_93 : decode cX4_merge 93 = .ok (.iload_n 3, 1) := dk_29 (dk_at dksX4_merge_3 21 rfl rfl)
theorem dX4_merge_94 : decode cX4_merge 94 = .ok (.invokevirtual 72, 3) := dk_182 0 72 (dk_at dksX4_merge_4 0 rfl rfl)
theorem dX4_merge_97 : decode cX4_merge 97 = .ok (.aload_n 0, 1) := dk_42 (dk_at dksX4_merge_4 3 rfl rfl)
theorem dX4_merge_98 : decode cX4_merge 98 = .ok (.iload_n 2, 1) := dk_28 (dk_at dksX4_merge_4 4 rfl rfl)
theorem dX4_merge_99 : decode cX4_merge 99 = .ok (.iload_n 3, 1) := dk_29 (dk_at dksX4_merge_4 5 rfl rfl)
theorem dX4_merge_100 : decode cX4_merge 100 = .ok (.invokevirtual 72, 3) := dk_182 0 72 (dk_at dksX4_merge_4 6 rfl rfl)
theorem dX4_merge_103 : decode cX4_merge 103 = .ok (.iadd, 1) := dk_96 (dk_at dksX4_merge_4 9 rfl rfl)
theorem dX4_merge_104 : decode cX4_merge 104 = .ok (.bipush 60, 2) := dk_16 60 (dk_at dksX4_merge_4 10 rfl rfl)
theorem dX4_merge_106 : decode cX4_merge 106 = .ok (.invokestatic 246, 3) := dk_184 0 246 (dk_at dksX4_merge_4 12 rfl rfl)
theorem dX4_merge_109 : decode cX4_merge 109 = .ok (.iastore, 1) := dk_79 (dk_at dksX4_merge_4 15 rfl rfl)
theorem dX4_merge_110 : decode cX4_merge 110 = .ok (.iinc 3 1, 3) := dk_132 3 1 (dk_at dksX4_merge_4 16 rfl rfl)
theorem dX4_merge_113 : decode cX4_merge 113 = .ok (.goto (-39), 3) := dk_167 255 217 (dk_at dksX4_merge_4 19 rfl rfl)
theorem dX4_merge_116 : decode cX4_merge 116 = .ok (.iconst 0, 1) := dk_3 (dk_at dksX4_merge_4 22 rfl rfl)
theorem dX4_merge_117 : decode cX4_merge 117 = .ok (.istore_n 3, 1) := dk_62 (dk_at dksX4_merge_4 23 rfl rfl)
theorem dX4_merge_118 : decode cX4_merge 118 = .ok (.iload_n 3, 1) := dk_29 (dk_at dksX4_merge_5 0 rfl rfl)
theorem dX4_merge_119 : decode cX4_merge 119 = .ok (.bipush 6, 2) := dk_16 6 (dk_at dksX4_merge_5 1 rfl rfl)
theorem dX4_merge_121 : decode cX4_merge 121 = .ok (.if_icmp .ge 110, 3) := dk_162 0 110 (dk_at dksX4_merge_5 3 rfl rfl)
theorem dX4_merge_124 : decode cX4_merge 124 = .ok (.iload_n 3, 1) := dk_29 (dk_at dksX4_merge_5 6 rfl rfl)
theorem dX4_merge_125 : decode cX4_merge 125 = .ok (.iload_n 1, 1) := dk_27 (dk_at dksX4_merge_5 7 rfl rfl)
theorem dX4_merge_126 : decode cX4_merge 126 = .ok (.if_icmp .eq 12, 3) := dk_159 0 12 (dk_at dksX4_merge_5 8 rfl rfl)
theorem dX4_merge_129 : decode cX4_merge 129 = .ok (.iload_n 3, 1) := dk_29 (dk_at dksX4_merge_5 11 rfl rfl)
theorem dX4_merge_130 : decode cX4_merge 130 = .ok (.iload_n 2, 1) := dk_28 (dk_at dksX4_merge_5 12 rfl rfl)
theorem dX4_merge_131 : decode cX4_merge 131 = .ok (.if_icmp .eq 7, 3) := dk_159 0 7 (dk_at dksX4_merge_5 13 rfl rfl)
theorem dX4_merge_134 : decode cX4_merge 134 = .ok (.iconst 1, 1) := dk_4 (dk_at dksX4_merge_5 16 rfl rfl)
theorem dX4_merge_135 : decode cX4_merge 135 = .ok (.goto 4, 3) := dk_167 0 4 (dk_at dksX4_merge_5 17 rfl rfl)
theorem dX4_merge_138 : decode cX4_merge 138 = .ok (.iconst 0, 1) := dk_3 (dk_at dksX4_merge_5 20 rfl rfl)
theorem dX4_merge_139 : decode cX4_merge 139 = .ok (.istore 4, 2) := dk_54 4 (dk_at dksX4_merge_5 21 rfl rfl)
theorem dX4_merge_141 : decode cX4_merge 141 = .ok (.aload_n 0, 1) := dk_42 (dk_at dksX4_merge_5 23 rfl rfl)
theorem dX4_merge_142 : decode cX4_merge 142 = .ok (.getfield 7, 3) := dk_180 0 7 (dk_at dksX4_merge_6 0 rfl rfl)
theorem dX4_merge_145 : decode cX4_merge 145 = .ok (.bipush 64, 2) := dk_16 64 (dk_at dksX4_merge_6 3 rfl rfl)
theorem dX4_merge_147 : decode cX4_merge 147 = .ok (.bipush 6, 2) := dk_16 6 (dk_at dksX4_merge_6 5 rfl rfl)
theorem dX4_merge_149 : decode cX4_merge 149 = .ok (.iload_n 1, 1) := dk_27 (dk_at dksX4_merge_6 7 rfl rfl)
theorem dX4_merge_150 : decode cX4_merge 150 = .ok (.imul, 1) := dk_104 (dk_at dksX4_merge_6 8 rfl rfl)
theorem dX4_merge_151 : decode cX4_merge 151 = .ok (.iadd, 1) := dk_96 (dk_at dksX4_merge_6 9 rfl rfl)
theorem dX4_merge_152 : decode cX4_merge 152 = .ok (.iload_n 3, 1) := dk_29 (dk_at dksX4_merge_6 10 rfl rfl)
theorem dX4_merge_153 : decode cX4_merge 153 = .ok (.iadd, 1) := dk_96 (dk_at dksX4_merge_6 11 rfl rfl)
theorem dX4_merge_154 : decode cX4_merge 154 = .ok (.iload 4, 2) := dk_21 4 (dk_at dksX4_merge_6 12 rfl rfl)
theorem dX4_merge_156 : decode cX4_merge 156 = .ok (.ifCond .eq 25, 3) := dk_153 0 25 (dk_at dksX4_merge_6 14 rfl rfl)
theorem dX4_merge_159 : decode cX4_merge 159 = .ok (.aload_n 0, 1) := dk_42 (dk_at dksX4_merge_6 17 rfl rfl)
theorem dX4_merge_160 : decode cX4_merge 160 = .ok (.iload_n 1, 1) := dk_27 (dk_at dksX4_merge_6 18 rfl rfl)
theorem dX4_merge_161 : decode cX4_merge 161 = .ok (.iload_n 3, 1) := dk_29 (dk_at dksX4_merge_6 19 rfl rfl)
theorem dX4_merge_162 : decode cX4_merge 162 = .ok (.invokevirtual 181, 3) := dk_182 0 181 (dk_at dksX4_merge_6 20 rfl rfl)
theorem dX4_merge_165 : decode cX4_merge 165 = .ok (.aload_n 0, 1) := dk_42 (dk_at dksX4_merge_6 23 rfl rfl)
theorem dX4_merge_166 : decode cX4_merge 166 = .ok (.iload_n 2, 1) := dk_28 (dk_at dksX4_merge_7 0 rfl rfl)
theorem dX4_merge_167 : decode cX4_merge 167 = .ok (.iload_n 3, 1) := dk_29 (dk_at dksX4_merge_7 1 rfl rfl)
theorem dX4_merge_168 : decode cX4_merge 168 = .ok (.invokevirtual 181, 3) := dk_182 0 181 (dk_at dksX4_merge_7 2 rfl rfl)
theorem dX4_merge_171 : decode cX4_merge 171 = .ok (.iadd, 1) := dk_96 (dk_at dksX4_merge_7 5 rfl rfl)
theorem dX4_merge_172 : decode cX4_merge 172 = .ok (.sipush 999, 3) := dk_17 3 231 (dk_at dksX4_merge_7 6 rfl rfl)
theorem dX4_merge_175 : decode cX4_merge 175 = .ok (.invokestatic 246, 3) := dk_184 0 246 (dk_at dksX4_merge_7 9 rfl rfl)
theorem dX4_merge_178 : decode cX4_merge 178 = .ok (.goto 4, 3) := dk_167 0 4 (dk_at dksX4_merge_7 12 rfl rfl)
theorem dX4_merge_181 : decode cX4_merge 181 = .ok (.iconst 0, 1) := dk_3 (dk_at dksX4_merge_7 15 rfl rfl)
theorem dX4_merge_182 : decode cX4_merge 182 = .ok (.iastore, 1) := dk_79 (dk_at dksX4_merge_7 16 rfl rfl)
theorem dX4_merge_183 : decode cX4_merge 183 = .ok (.aload_n 0, 1) := dk_42 (dk_at dksX4_merge_7 17 rfl rfl)
theorem dX4_merge_184 : decode cX4_merge 184 = .ok (.getfield 7, 3) := dk_180 0 7 (dk_at dksX4_merge_7 18 rfl rfl)
theorem dX4_merge_187 : decode cX4_merge 187 = .ok (.bipush 64, 2) := dk_16 64 (dk_at dksX4_merge_7 21 rfl rfl)
theorem dX4_merge_189 : decode cX4_merge 189 = .ok (.bipush 6, 2) := dk_16 6 (dk_at dksX4_merge_8 0 rfl rfl)
theorem dX4_merge_191 : decode cX4_merge 191 = .ok (.iload_n 3, 1) := dk_29 (dk_at dksX4_merge_8 2 rfl rfl)
theorem dX4_merge_192 : decode cX4_merge 192 = .ok (.imul, 1) := dk_104 (dk_at dksX4_merge_8 3 rfl rfl)
theorem dX4_merge_193 : decode cX4_merge 193 = .ok (.iadd, 1) := dk_96 (dk_at dksX4_merge_8 4 rfl rfl)
theorem dX4_merge_194 : decode cX4_merge 194 = .ok (.iload_n 1, 1) := dk_27 (dk_at dksX4_merge_8 5 rfl rfl)
theorem dX4_merge_195 : decode cX4_merge 195 = .ok (.iadd, 1) := dk_96 (dk_at dksX4_merge_8 6 rfl rfl)
theorem dX4_merge_196 : decode cX4_merge 196 = .ok (.iload 4, 2) := dk_21 4 (dk_at dksX4_merge_8 7 rfl rfl)
theorem dX4_merge_198 : decode cX4_merge 198 = .ok (.ifCond .eq 25, 3) := dk_153 0 25 (dk_at dksX4_merge_8 9 rfl rfl)
theorem dX4_merge_201 : decode cX4_merge 201 = .ok (.aload_n 0, 1) := dk_42 (dk_at dksX4_merge_8 12 rfl rfl)
theorem dX4_merge_202 : decode cX4_merge 202 = .ok (.iload_n 3, 1) := dk_29 (dk_at dksX4_merge_8 13 rfl rfl)
theorem dX4_merge_203 : decode cX4_merge 203 = .ok (.iload_n 1, 1) := dk_27 (dk_at dksX4_merge_8 14 rfl rfl)
theorem dX4_merge_204 : decode cX4_merge 204 = .ok (.invokevirtual 181, 3) := dk_182 0 181 (dk_at dksX4_merge_8 15 rfl rfl)
theorem dX4_merge_207 : decode cX4_merge 207 = .ok (.aload_n 0, 1) := dk_42 (dk_at dksX4_merge_8 18 rfl rfl)
theorem dX4_merge_208 : decode cX4_merge 208 = .ok (.iload_n 3, 1) := dk_29 (dk_at dksX4_merge_8 19 rfl rfl)
theorem dX4_merge_209 : decode cX4_merge 209 = .ok (.iload_n 2, 1) := dk_28 (dk_at dksX4_merge_8 20 rfl rfl)
theorem dX4_merge_210 : decode cX4_merge 210 = .ok (.invokevirtual 181, 3) := dk_182 0 181 (dk_at dksX4_merge_8 21 rfl rfl)
theorem dX4_merge_213 : decode cX4_merge 213 = .ok (.iadd, 1) := dk_96 (dk_at dksX4_merge_9 0 rfl rfl)
theorem dX4_merge_214 : decode cX4_merge 214 = .ok (.sipush 999, 3) := dk_17 3 231 (dk_at dksX4_merge_9 1 rfl rfl)
theorem dX4_merge_217 : decode cX4_merge 217 = .ok (.invokestatic 246, 3) := dk_184 0 246 (dk_at dksX4_merge_9 4 rfl rfl)
theorem dX4_merge_220 : decode cX4_merge 220 = .ok (.goto 4, 3) := dk_167 0 4 (dk_at dksX4_merge_9 7 rfl rfl)
theorem dX4_merge_223 : decode cX4_merge 223 = .ok (.iconst 0, 1) := dk_3 (dk_at dksX4_merge_9 10 rfl rfl)
theorem dX4_merge_224 : decode cX4_merge 224 = .ok (.iastore, 1) := dk_79 (dk_at dksX4_merge_9 11 rfl rfl)
theorem dX4_merge_225 : decode cX4_merge 225 = .ok (.iinc 3 1, 3) := dk_132 3 1 (dk_at dksX4_merge_9 12 rfl rfl)
theorem dX4_merge_228 : decode cX4_merge 228 = .ok (.goto (-110), 3) := dk_167 255 146 (dk_at dksX4_merge_9 15 rfl rfl)
theorem dX4_merge_231 : decode cX4_merge 231 = .ok (.aload_n 0, 1) := dk_42 (dk_at dksX4_merge_9 18 rfl rfl)
theorem dX4_merge_232 : decode cX4_merge 232 = .ok (.iload_n 2, 1) := dk_28 (dk_at dksX4_merge_9 19 rfl rfl)
theorem dX4_merge_233 : decode cX4_merge 233 = .ok (.invokevirtual 249, 3) := dk_182 0 249 (dk_at dksX4_merge_9 20 rfl rfl)
theorem dX4_merge_236 : decode cX4_merge 236 = .ok (.iload_n 2, 1) := dk_28 (dk_at dksX4_merge_9 23 rfl rfl)
theorem dX4_merge_237 : decode cX4_merge 237 = .ok (.iload_n 1, 1) := dk_27 (dk_at dksX4_merge_10 0 rfl rfl)
theorem dX4_merge_238 : decode cX4_merge 238 = .ok (.if_icmp .ge 9, 3) := dk_162 0 9 (dk_at dksX4_merge_10 1 rfl rfl)
theorem dX4_merge_241 : decode cX4_merge 241 = .ok (.iload_n 1, 1) := dk_27 (dk_at dksX4_merge_10 4 rfl rfl)
theorem dX4_merge_242 : decode cX4_merge 242 = .ok (.iconst 1, 1) := dk_4 (dk_at dksX4_merge_10 5 rfl rfl)
theorem dX4_merge_243 : decode cX4_merge 243 = .ok (.isub, 1) := dk_100 (dk_at dksX4_merge_10 6 rfl rfl)
theorem dX4_merge_244 : decode cX4_merge 244 = .ok (.goto 4, 3) := dk_167 0 4 (dk_at dksX4_merge_10 7 rfl rfl)
theorem dX4_merge_247 : decode cX4_merge 247 = .ok (.iload_n 1, 1) := dk_27 (dk_at dksX4_merge_10 10 rfl rfl)
theorem dX4_merge_248 : decode cX4_merge 248 = .ok (.ireturn, 1) := dk_172 (dk_at dksX4_merge_10 11 rfl rfl)
def dkwX4_held_0 : List UInt8 := [26, 27, 162, 0, 7, 26, 167, 0, 4, 27, 172]
abbrev dktX4_held_0 : List UInt8 := dkwX4_held_0 ++ []
theorem dksX4_held_0 : cX4_held.data.toList.drop 0 = dktX4_held_0 := by decide +kernel
theorem dX4_held_0 : decode cX4_held 0 = .ok (.iload_n 0, 1) := dk_26 (dk_at dksX4_held_0 0 rfl rfl)
theorem dX4_held_1 : decode cX4_held 1 = .ok (.iload_n 1, 1) := dk_27 (dk_at dksX4_held_0 1 rfl rfl)
theorem dX4_held_2 : decode cX4_held 2 = .ok (.if_icmp .ge 7, 3) := dk_162 0 7 (dk_at dksX4_held_0 2 rfl rfl)
theorem dX4_held_5 : decode cX4_held 5 = .ok (.iload_n 0, 1) := dk_26 (dk_at dksX4_held_0 5 rfl rfl)
theorem dX4_held_6 : decode cX4_held 6 = .ok (.goto 4, 3) := dk_167 0 4 (dk_at dksX4_held_0 6 rfl rfl)
theorem dX4_held_9 : decode cX4_held 9 = .ok (.iload_n 1, 1) := dk_27 (dk_at dksX4_held_0 9 rfl rfl)
theorem dX4_held_10 : decode cX4_held 10 = .ok (.ireturn, 1) := dk_172 (dk_at dksX4_held_0 10 rfl rfl)
def dkwX4_goes_9 : List UInt8 := [42, 28, 4, 100, 182, 0, 243, 42, 180, 0, 7, 4, 92, 46, 4, 100, 79, 177]
abbrev dktX4_goes_9 : List UInt8 := dkwX4_goes_9 ++ []
def dkwX4_goes_8 : List UInt8 := [167, 255, 223, 42, 180, 0, 7, 16, 64, 16, 6, 29, 104, 96, 8, 96, 3, 79, 132, 3, 1, 167, 255, 193]
abbrev dktX4_goes_8 : List UInt8 := dkwX4_goes_8 ++ dktX4_goes_9
def dkwX4_goes_7 : List UInt8 := [16, 64, 16, 6, 29, 104, 96, 21, 4, 96, 42, 29, 21, 4, 4, 96, 182, 0, 181, 79, 132, 4, 1]
abbrev dktX4_goes_7 : List UInt8 := dkwX4_goes_7 ++ dktX4_goes_8
def dkwX4_goes_6 : List UInt8 := [167, 255, 130, 3, 62, 29, 16, 6, 162, 0, 63, 27, 54, 4, 21, 4, 8, 162, 0, 33, 42, 180, 0, 7]
abbrev dktX4_goes_6 : List UInt8 := dkwX4_goes_6 ++ dktX4_goes_7
def dkwX4_goes_5 : List UInt8 := [21, 4, 96, 42, 29, 4, 96, 21, 4, 182, 0, 181, 79, 132, 4, 1, 167, 255, 222, 132, 3, 1]
abbrev dktX4_goes_5 : List UInt8 := dkwX4_goes_5 ++ dktX4_goes_6
def dkwX4_goes_4 : List UInt8 := [167, 255, 224, 3, 54, 4, 21, 4, 16, 6, 162, 0, 33, 42, 180, 0, 7, 16, 64, 16, 6, 29, 104, 96]
abbrev dktX4_goes_4 : List UInt8 := dkwX4_goes_4 ++ dktX4_goes_5
def dkwX4_goes_3 : List UInt8 := [16, 40, 7, 29, 104, 96, 21, 4, 96, 42, 29, 4, 96, 21, 4, 182, 0, 72, 79, 132, 4, 1]
abbrev dktX4_goes_3 : List UInt8 := dkwX4_goes_3 ++ dktX4_goes_4
def dkwX4_goes_2 : List UInt8 := [182, 0, 175, 79, 132, 4, 1, 167, 255, 224, 3, 54, 4, 21, 4, 7, 162, 0, 32, 42, 180, 0, 7]
abbrev dktX4_goes_2 : List UInt8 := dkwX4_goes_2 ++ dktX4_goes_3
def dkwX4_goes_1 : List UInt8 := [162, 0, 32, 42, 180, 0, 7, 16, 10, 8, 29, 104, 96, 21, 4, 96, 42, 29, 4, 96, 21, 4]
abbrev dktX4_goes_1 : List UInt8 := dkwX4_goes_1 ++ dktX4_goes_2
def dkwX4_goes_0 : List UInt8 := [42, 180, 0, 7, 4, 46, 61, 27, 62, 29, 28, 4, 100, 162, 0, 125, 3, 54, 4, 21, 4, 8]
abbrev dktX4_goes_0 : List UInt8 := dkwX4_goes_0 ++ dktX4_goes_1
theorem dksX4_goes_0 : cX4_goes.data.toList.drop 0 = dktX4_goes_0 := by decide +kernel
theorem dksX4_goes_1 : cX4_goes.data.toList.drop 22 = dktX4_goes_1 := dk_seg dksX4_goes_0 22 rfl rfl
theorem dksX4_goes_2 : cX4_goes.data.toList.drop 44 = dktX4_goes_2 := dk_seg dksX4_goes_1 22 rfl rfl
theorem dksX4_goes_3 : cX4_goes.data.toList.drop 67 = dktX4_goes_3 := dk_seg dksX4_goes_2 23 rfl rfl
theorem dksX4_goes_4 : cX4_goes.data.toList.drop 89 = dktX4_goes_4 := dk_seg dksX4_goes_3 22 rfl rfl
theorem dksX4_goes_5 : cX4_goes.data.toList.drop 113 = dktX4_goes_5 := dk_seg dksX4_goes_4 24 rfl rfl
theorem dksX4_goes_6 : cX4_goes.data.toList.drop 135 = dktX4_goes_6 := dk_seg dksX4_goes_5 22 rfl rfl
theorem dksX4_goes_7 : cX4_goes.data.toList.drop 159 = dktX4_goes_7 := dk_seg dksX4_goes_6 24 rfl rfl
theorem dksX4_goes_8 : cX4_goes.data.toList.drop 182 = dktX4_goes_8 := dk_seg dksX4_goes_7 23 rfl rfl
theorem dksX4_goes_9 : cX4_goes.data.toList.drop 206 = dktX4_goes_9 := dk_seg dksX4_goes_8 24 rfl rfl
theorem dX4_goes_0 : decode cX4_goes 0 = .ok (.aload_n 0, 1) := dk_42 (dk_at dksX4_goes_0 0 rfl rfl)
theorem dX4_goes_1 : decode cX4_goes 1 = .ok (.getfield 7, 3) := dk_180 0 7 (dk_at dksX4_goes_0 1 rfl rfl)
theorem dX4_goes_4 : decode cX4_goes 4 = .ok (.iconst 1, 1) := dk_4 (dk_at dksX4_goes_0 4 rfl rfl)
theorem dX4_goes_5 : decode cX4_goes 5 = .ok (.iaload, 1) := dk_46 (dk_at dksX4_goes_0 5 rfl rfl)
theorem dX4_goes_6 : decode cX4_goes 6 = .ok (.istore_n 2, 1) := dk_61 (dk_at dksX4_goes_0 6 rfl rfl)
theorem dX4_goes_7 : decode cX4_goes 7 = .ok (.iload_n 1, 1) := dk_27 (dk_at dksX4_goes_0 7 rfl rfl)
theorem dX4_goes_8 : decode cX4_goes 8 = .ok (.istore_n 3, 1) := dk_62 (dk_at dksX4_goes_0 8 rfl rfl)
theorem dX4_goes_9 : decode cX4_goes 9 = .ok (.iload_n 3, 1) := dk_29 (dk_at dksX4_goes_0 9 rfl rfl)
theorem dX4_goes_10 : decode cX4_goes 10 = .ok (.iload_n 2, 1) := dk_28 (dk_at dksX4_goes_0 10 rfl rfl)
theorem dX4_goes_11 : decode cX4_goes 11 = .ok (.iconst 1, 1) := dk_4 (dk_at dksX4_goes_0 11 rfl rfl)
theorem dX4_goes_12 : decode cX4_goes 12 = .ok (.isub, 1) := dk_100 (dk_at dksX4_goes_0 12 rfl rfl)
theorem dX4_goes_13 : decode cX4_goes 13 = .ok (.if_icmp .ge 125, 3) := dk_162 0 125 (dk_at dksX4_goes_0 13 rfl rfl)
theorem dX4_goes_16 : decode cX4_goes 16 = .ok (.iconst 0, 1) := dk_3 (dk_at dksX4_goes_0 16 rfl rfl)
theorem dX4_goes_17 : decode cX4_goes 17 = .ok (.istore 4, 2) := dk_54 4 (dk_at dksX4_goes_0 17 rfl rfl)
theorem dX4_goes_19 : decode cX4_goes 19 = .ok (.iload 4, 2) := dk_21 4 (dk_at dksX4_goes_0 19 rfl rfl)
theorem dX4_goes_21 : decode cX4_goes 21 = .ok (.iconst 5, 1) := dk_8 (dk_at dksX4_goes_0 21 rfl rfl)
theorem dX4_goes_22 : decode cX4_goes 22 = .ok (.if_icmp .ge 32, 3) := dk_162 0 32 (dk_at dksX4_goes_1 0 rfl rfl)
theorem dX4_goes_25 : decode cX4_goes 25 = .ok (.aload_n 0, 1) := dk_42 (dk_at dksX4_goes_1 3 rfl rfl)
theorem dX4_goes_26 : decode cX4_goes 26 = .ok (.getfield 7, 3) := dk_180 0 7 (dk_at dksX4_goes_1 4 rfl rfl)
theorem dX4_goes_29 : decode cX4_goes 29 = .ok (.bipush 10, 2) := dk_16 10 (dk_at dksX4_goes_1 7 rfl rfl)
theorem dX4_goes_31 : decode cX4_goes 31 = .ok (.iconst 5, 1) := dk_8 (dk_at dksX4_goes_1 9 rfl rfl)
theorem dX4_goes_32 : decode cX4_goes 32 = .ok (.iload_n 3, 1) := dk_29 (dk_at dksX4_goes_1 10 rfl rfl)
theorem dX4_goes_33 : decode cX4_goes 33 = .ok (.imul, 1) := dk_104 (dk_at dksX4_goes_1 11 rfl rfl)
theorem dX4_goes_34 : decode cX4_goes 34 = .ok (.iadd, 1) := dk_96 (dk_at dksX4_goes_1 12 rfl rfl)
theorem dX4_goes_35 : decode cX4_goes 35 = .ok (.iload 4, 2) := dk_21 4 (dk_at dksX4_goes_1 13 rfl rfl)
theorem dX4_goes_37 : decode cX4_goes 37 = .ok (.iadd, 1) := dk_96 (dk_at dksX4_goes_1 15 rfl rfl)
theorem dX4_goes_38 : decode cX4_goes 38 = .ok (.aload_n 0, 1) := dk_42 (dk_at dksX4_goes_1 16 rfl rfl)
theorem dX4_goes_39 : decode cX4_goes 39 = .ok (.iload_n 3, 1) := dk_29 (dk_at dksX4_goes_1 17 rfl rfl)
theorem dX4_goes_40 : decode cX4_goes 40 = .ok (.iconst 1, 1) := dk_4 (dk_at dksX4_goes_1 18 rfl rfl)
theorem dX4_goes_41 : decode cX4_goes 41 = .ok (.iadd, 1) := dk_96 (dk_at dksX4_goes_1 19 rfl rfl)
theorem dX4_goes_42 : decode cX4_goes 42 = .ok (.iload 4, 2) := dk_21 4 (dk_at dksX4_goes_1 20 rfl rfl)
theorem dX4_goes_44 : decode cX4_goes 44 = .ok (.invokevirtual 175, 3) := dk_182 0 175 (dk_at dksX4_goes_2 0 rfl rfl)
theorem dX4_goes_47 : decode cX4_goes 47 = .ok (.iastore, 1) := dk_79 (dk_at dksX4_goes_2 3 rfl rfl)
theorem dX4_goes_48 : decode cX4_goes 48 = .ok (.iinc 4 1, 3) := dk_132 4 1 (dk_at dksX4_goes_2 4 rfl rfl)
theorem dX4_goes_51 : decode cX4_goes 51 = .ok (.goto (-32), 3) := dk_167 255 224 (dk_at dksX4_goes_2 7 rfl rfl)
theorem dX4_goes_54 : decode cX4_goes 54 = .ok (.iconst 0, 1) := dk_3 (dk_at dksX4_goes_2 10 rfl rfl)
theorem dX4_goes_55 : decode cX4_goes 55 = .ok (.istore 4, 2) := dk_54 4 (dk_at dksX4_goes_2 11 rfl rfl)
theorem dX4_goes_57 : decode cX4_goes 57 = .ok (.iload 4, 2) := dk_21 4 (dk_at dksX4_goes_2 13 rfl rfl)
theorem dX4_goes_59 : decode cX4_goes 59 = .ok (.iconst 4, 1) := dk_7 (dk_at dksX4_goes_2 15 rfl rfl)
theorem dX4_goes_60 : decode cX4_goes 60 = .ok (.if_icmp .ge 32, 3) := dk_162 0 32 (dk_at dksX4_goes_2 16 rfl rfl)
theorem dX4_goes_63 : decode cX4_goes 63 = .ok (.aload_n 0, 1) := dk_42 (dk_at dksX4_goes_2 19 rfl rfl)
theorem dX4_goes_64 : decode cX4_goes 64 = .ok (.getfield 7, 3) := dk_180 0 7 (dk_at dksX4_goes_2 20 rfl rfl)
theorem dX4_goes_67 : decode cX4_goes 67 = .ok (.bipush 40, 2) := dk_16 40 (dk_at dksX4_goes_3 0 rfl rfl)
theorem dX4_goes_69 : decode cX4_goes 69 = .ok (.iconst 4, 1) := dk_7 (dk_at dksX4_goes_3 2 rfl rfl)
theorem dX4_goes_70 : decode cX4_goes 70 = .ok (.iload_n 3, 1) := dk_29 (dk_at dksX4_goes_3 3 rfl rfl)
theorem dX4_goes_71 : decode cX4_goes 71 = .ok (.imul, 1) := dk_104 (dk_at dksX4_goes_3 4 rfl rfl)
theorem dX4_goes_72 : decode cX4_goes 72 = .ok (.iadd, 1) := dk_96 (dk_at dksX4_goes_3 5 rfl rfl)
theorem dX4_goes_73 : decode cX4_goes 73 = .ok (.iload 4, 2) := dk_21 4 (dk_at dksX4_goes_3 6 rfl rfl)
theorem dX4_goes_75 : decode cX4_goes 75 = .ok (.iadd, 1) := dk_96 (dk_at dksX4_goes_3 8 rfl rfl)
theorem dX4_goes_76 : decode cX4_goes 76 = .ok (.aload_n 0, 1) := dk_42 (dk_at dksX4_goes_3 9 rfl rfl)
theorem dX4_goes_77 : decode cX4_goes 77 = .ok (.iload_n 3, 1) := dk_29 (dk_at dksX4_goes_3 10 rfl rfl)
theorem dX4_goes_78 : decode cX4_goes 78 = .ok (.iconst 1, 1) := dk_4 (dk_at dksX4_goes_3 11 rfl rfl)
theorem dX4_goes_79 : decode cX4_goes 79 = .ok (.iadd, 1) := dk_96 (dk_at dksX4_goes_3 12 rfl rfl)
theorem dX4_goes_80 : decode cX4_goes 80 = .ok (.iload 4, 2) := dk_21 4 (dk_at dksX4_goes_3 13 rfl rfl)
theorem dX4_goes_82 : decode cX4_goes 82 = .ok (.invokevirtual 72, 3) := dk_182 0 72 (dk_at dksX4_goes_3 15 rfl rfl)
theorem dX4_goes_85 : decode cX4_goes 85 = .ok (.iastore, 1) := dk_79 (dk_at dksX4_goes_3 18 rfl rfl)
theorem dX4_goes_86 : decode cX4_goes 86 = .ok (.iinc 4 1, 3) := dk_132 4 1 (dk_at dksX4_goes_3 19 rfl rfl)
theorem dX4_goes_89 : decode cX4_goes 89 = .ok (.goto (-32), 3) := dk_167 255 224 (dk_at dksX4_goes_4 0 rfl rfl)
theorem dX4_goes_92 : decode cX4_goes 92 = .ok (.iconst 0, 1) := dk_3 (dk_at dksX4_goes_4 3 rfl rfl)
theorem dX4_goes_93 : decode cX4_goes 93 = .ok (.istore 4, 2) := dk_54 4 (dk_at dksX4_goes_4 4 rfl rfl)
theorem dX4_goes_95 : decode cX4_goes 95 = .ok (.iload 4, 2) := dk_21 4 (dk_at dksX4_goes_4 6 rfl rfl)
theorem dX4_goes_97 : decode cX4_goes 97 = .ok (.bipush 6, 2) := dk_16 6 (dk_at dksX4_goes_4 8 rfl rfl)
theorem dX4_goes_99 : decode cX4_goes 99 = .ok (.if_icmp .ge 33, 3) := dk_162 0 33 (dk_at dksX4_goes_4 10 rfl rfl)
theorem dX4_goes_102 : decode cX4_goes 102 = .ok (.aload_n 0, 1) := dk_42 (dk_at dksX4_goes_4 13 rfl rfl)
theorem dX4_goes_103 : decode cX4_goes 103 = .ok (.getfield 7, 3) := dk_180 0 7 (dk_at dksX4_goes_4 14 rfl rfl)
theorem dX4_goes_106 : decode cX4_goes 106 = .ok (.bipush 64, 2) := dk_16 64 (dk_at dksX4_goes_4 17 rfl rfl)
theorem dX4_goes_108 : decode cX4_goes 108 = .ok (.bipush 6, 2) := dk_16 6 (dk_at dksX4_goes_4 19 rfl rfl)
theorem dX4_goes_110 : decode cX4_goes 110 = .ok (.iload_n 3, 1) := dk_29 (dk_at dksX4_goes_4 21 rfl rfl)
theorem dX4_goes_111 : decode cX4_goes 111 = .ok (.imul, 1) := dk_104 (dk_at dksX4_goes_4 22 rfl rfl)
theorem dX4_goes_112 : decode cX4_goes 112 = .ok (.iadd, 1) := dk_96 (dk_at dksX4_goes_4 23 rfl rfl)
theorem dX4_goes_113 : decode cX4_goes 113 = .ok (.iload 4, 2) := dk_21 4 (dk_at dksX4_goes_5 0 rfl rfl)
theorem dX4_goes_115 : decode cX4_goes 115 = .ok (.iadd, 1) := dk_96 (dk_at dksX4_goes_5 2 rfl rfl)
theorem dX4_goes_116 : decode cX4_goes 116 = .ok (.aload_n 0, 1) := dk_42 (dk_at dksX4_goes_5 3 rfl rfl)
theorem dX4_goes_117 : decode cX4_goes 117 = .ok (.iload_n 3, 1) := dk_29 (dk_at dksX4_goes_5 4 rfl rfl)
theorem dX4_goes_118 : decode cX4_goes 118 = .ok (.iconst 1, 1) := dk_4 (dk_at dksX4_goes_5 5 rfl rfl)
theorem dX4_goes_119 : decode cX4_goes 119 = .ok (.iadd, 1) := dk_96 (dk_at dksX4_goes_5 6 rfl rfl)
theorem dX4_goes_120 : decode cX4_goes 120 = .ok (.iload 4, 2) := dk_21 4 (dk_at dksX4_goes_5 7 rfl rfl)
theorem dX4_goes_122 : decode cX4_goes 122 = .ok (.invokevirtual 181, 3) := dk_182 0 181 (dk_at dksX4_goes_5 9 rfl rfl)
theorem dX4_goes_125 : decode cX4_goes 125 = .ok (.iastore, 1) := dk_79 (dk_at dksX4_goes_5 12 rfl rfl)
theorem dX4_goes_126 : decode cX4_goes 126 = .ok (.iinc 4 1, 3) := dk_132 4 1 (dk_at dksX4_goes_5 13 rfl rfl)
theorem dX4_goes_129 : decode cX4_goes 129 = .ok (.goto (-34), 3) := dk_167 255 222 (dk_at dksX4_goes_5 16 rfl rfl)
theorem dX4_goes_132 : decode cX4_goes 132 = .ok (.iinc 3 1, 3) := dk_132 3 1 (dk_at dksX4_goes_5 19 rfl rfl)
theorem dX4_goes_135 : decode cX4_goes 135 = .ok (.goto (-126), 3) := dk_167 255 130 (dk_at dksX4_goes_6 0 rfl rfl)
theorem dX4_goes_138 : decode cX4_goes 138 = .ok (.iconst 0, 1) := dk_3 (dk_at dksX4_goes_6 3 rfl rfl)
theorem dX4_goes_139 : decode cX4_goes 139 = .ok (.istore_n 3, 1) := dk_62 (dk_at dksX4_goes_6 4 rfl rfl)
theorem dX4_goes_140 : decode cX4_goes 140 = .ok (.iload_n 3, 1) := dk_29 (dk_at dksX4_goes_6 5 rfl rfl)
theorem dX4_goes_141 : decode cX4_goes 141 = .ok (.bipush 6, 2) := dk_16 6 (dk_at dksX4_goes_6 6 rfl rfl)
theorem dX4_goes_143 : decode cX4_goes 143 = .ok (.if_icmp .ge 63, 3) := dk_162 0 63 (dk_at dksX4_goes_6 8 rfl rfl)
theorem dX4_goes_146 : decode cX4_goes 146 = .ok (.iload_n 1, 1) := dk_27 (dk_at dksX4_goes_6 11 rfl rfl)
theorem dX4_goes_147 : decode cX4_goes 147 = .ok (.istore 4, 2) := dk_54 4 (dk_at dksX4_goes_6 12 rfl rfl)
theorem dX4_goes_149 : decode cX4_goes 149 = .ok (.iload 4, 2) := dk_21 4 (dk_at dksX4_goes_6 14 rfl rfl)
theorem dX4_goes_151 : decode cX4_goes 151 = .ok (.iconst 5, 1) := dk_8 (dk_at dksX4_goes_6 16 rfl rfl)
theorem dX4_goes_152 : decode cX4_goes 152 = .ok (.if_icmp .ge 33, 3) := dk_162 0 33 (dk_at dksX4_goes_6 17 rfl rfl)
theorem dX4_goes_155 : decode cX4_goes 155 = .ok (.aload_n 0, 1) := dk_42 (dk_at dksX4_goes_6 20 rfl rfl)
theorem dX4_goes_156 : decode cX4_goes 156 = .ok (.getfield 7, 3) := dk_180 0 7 (dk_at dksX4_goes_6 21 rfl rfl)
theorem dX4_goes_159 : decode cX4_goes 159 = .ok (.bipush 64, 2) := dk_16 64 (dk_at dksX4_goes_7 0 rfl rfl)
theorem dX4_goes_161 : decode cX4_goes 161 = .ok (.bipush 6, 2) := dk_16 6 (dk_at dksX4_goes_7 2 rfl rfl)
theorem dX4_goes_163 : decode cX4_goes 163 = .ok (.iload_n 3, 1) := dk_29 (dk_at dksX4_goes_7 4 rfl rfl)
theorem dX4_goes_164 : decode cX4_goes 164 = .ok (.imul, 1) := dk_104 (dk_at dksX4_goes_7 5 rfl rfl)
theorem dX4_goes_165 : decode cX4_goes 165 = .ok (.iadd, 1) := dk_96 (dk_at dksX4_goes_7 6 rfl rfl)
theorem dX4_goes_166 : decode cX4_goes 166 = .ok (.iload 4, 2) := dk_21 4 (dk_at dksX4_goes_7 7 rfl rfl)
theorem dX4_goes_168 : decode cX4_goes 168 = .ok (.iadd, 1) := dk_96 (dk_at dksX4_goes_7 9 rfl rfl)
theorem dX4_goes_169 : decode cX4_goes 169 = .ok (.aload_n 0, 1) := dk_42 (dk_at dksX4_goes_7 10 rfl rfl)
theorem dX4_goes_170 : decode cX4_goes 170 = .ok (.iload_n 3, 1) := dk_29 (dk_at dksX4_goes_7 11 rfl rfl)
theorem dX4_goes_171 : decode cX4_goes 171 = .ok (.iload 4, 2) := dk_21 4 (dk_at dksX4_goes_7 12 rfl rfl)
theorem dX4_goes_173 : decode cX4_goes 173 = .ok (.iconst 1, 1) := dk_4 (dk_at dksX4_goes_7 14 rfl rfl)
theorem dX4_goes_174 : decode cX4_goes 174 = .ok (.iadd, 1) := dk_96 (dk_at dksX4_goes_7 15 rfl rfl)
theorem dX4_goes_175 : decode cX4_goes 175 = .ok (.invokevirtual 181, 3) := dk_182 0 181 (dk_at dksX4_goes_7 16 rfl rfl)
theorem dX4_goes_178 : decode cX4_goes 178 = .ok (.iastore, 1) := dk_79 (dk_at dksX4_goes_7 19 rfl rfl)
theorem dX4_goes_179 : decode cX4_goes 179 = .ok (.iinc 4 1, 3) := dk_132 4 1 (dk_at dksX4_goes_7 20 rfl rfl)
theorem dX4_goes_182 : decode cX4_goes 182 = .ok (.goto (-33), 3) := dk_167 255 223 (dk_at dksX4_goes_8 0 rfl rfl)
theorem dX4_goes_185 : decode cX4_goes 185 = .ok (.aload_n 0, 1) := dk_42 (dk_at dksX4_goes_8 3 rfl rfl)
theorem dX4_goes_186 : decode cX4_goes 186 = .ok (.getfield 7, 3) := dk_180 0 7 (dk_at dksX4_goes_8 4 rfl rfl)
theorem dX4_goes_189 : decode cX4_goes 189 = .ok (.bipush 64, 2) := dk_16 64 (dk_at dksX4_goes_8 7 rfl rfl)
theorem dX4_goes_191 : decode cX4_goes 191 = .ok (.bipush 6, 2) := dk_16 6 (dk_at dksX4_goes_8 9 rfl rfl)
theorem dX4_goes_193 : decode cX4_goes 193 = .ok (.iload_n 3, 1) := dk_29 (dk_at dksX4_goes_8 11 rfl rfl)
theorem dX4_goes_194 : decode cX4_goes 194 = .ok (.imul, 1) := dk_104 (dk_at dksX4_goes_8 12 rfl rfl)
theorem dX4_goes_195 : decode cX4_goes 195 = .ok (.iadd, 1) := dk_96 (dk_at dksX4_goes_8 13 rfl rfl)
theorem dX4_goes_196 : decode cX4_goes 196 = .ok (.iconst 5, 1) := dk_8 (dk_at dksX4_goes_8 14 rfl rfl)
theorem dX4_goes_197 : decode cX4_goes 197 = .ok (.iadd, 1) := dk_96 (dk_at dksX4_goes_8 15 rfl rfl)
theorem dX4_goes_198 : decode cX4_goes 198 = .ok (.iconst 0, 1) := dk_3 (dk_at dksX4_goes_8 16 rfl rfl)
theorem dX4_goes_199 : decode cX4_goes 199 = .ok (.iastore, 1) := dk_79 (dk_at dksX4_goes_8 17 rfl rfl)
theorem dX4_goes_200 : decode cX4_goes 200 = .ok (.iinc 3 1, 3) := dk_132 3 1 (dk_at dksX4_goes_8 18 rfl rfl)
theorem dX4_goes_203 : decode cX4_goes 203 = .ok (.goto (-63), 3) := dk_167 255 193 (dk_at dksX4_goes_8 21 rfl rfl)
theorem dX4_goes_206 : decode cX4_goes 206 = .ok (.aload_n 0, 1) := dk_42 (dk_at dksX4_goes_9 0 rfl rfl)
theorem dX4_goes_207 : decode cX4_goes 207 = .ok (.iload_n 2, 1) := dk_28 (dk_at dksX4_goes_9 1 rfl rfl)
theorem dX4_goes_208 : decode cX4_goes 208 = .ok (.iconst 1, 1) := dk_4 (dk_at dksX4_goes_9 2 rfl rfl)
theorem dX4_goes_209 : decode cX4_goes 209 = .ok (.isub, 1) := dk_100 (dk_at dksX4_goes_9 3 rfl rfl)
theorem dX4_goes_210 : decode cX4_goes 210 = .ok (.invokevirtual 243, 3) := dk_182 0 243 (dk_at dksX4_goes_9 4 rfl rfl)
theorem dX4_goes_213 : decode cX4_goes 213 = .ok (.aload_n 0, 1) := dk_42 (dk_at dksX4_goes_9 7 rfl rfl)
theorem dX4_goes_214 : decode cX4_goes 214 = .ok (.getfield 7, 3) := dk_180 0 7 (dk_at dksX4_goes_9 8 rfl rfl)
theorem dX4_goes_217 : decode cX4_goes 217 = .ok (.iconst 1, 1) := dk_4 (dk_at dksX4_goes_9 11 rfl rfl)
theorem dX4_goes_218 : decode cX4_goes 218 = .ok (.dup2, 1) := dk_92 (dk_at dksX4_goes_9 12 rfl rfl)
theorem dX4_goes_219 : decode cX4_goes 219 = .ok (.iaload, 1) := dk_46 (dk_at dksX4_goes_9 13 rfl rfl)
theorem dX4_goes_220 : decode cX4_goes 220 = .ok (.iconst 1, 1) := dk_4 (dk_at dksX4_goes_9 14 rfl rfl)
theorem dX4_goes_221 : decode cX4_goes 221 = .ok (.isub, 1) := dk_100 (dk_at dksX4_goes_9 15 rfl rfl)
theorem dX4_goes_222 : decode cX4_goes 222 = .ok (.iastore, 1) := dk_79 (dk_at dksX4_goes_9 16 rfl rfl)
theorem dX4_goes_223 : decode cX4_goes 223 = .ok (.return_, 1) := dk_177 (dk_at dksX4_goes_9 17 rfl rfl)
def dkwX4_clears_3 : List UInt8 := [96, 28, 96, 3, 79, 132, 2, 1, 167, 255, 232, 177]
abbrev dktX4_clears_3 : List UInt8 := dkwX4_clears_3 ++ []
def dkwX4_clears_2 : List UInt8 := [132, 2, 1, 167, 255, 234, 3, 61, 28, 16, 6, 162, 0, 24, 42, 180, 0, 7, 16, 64, 16, 6, 27, 104]
abbrev dktX4_clears_2 : List UInt8 := dkwX4_clears_2 ++ dktX4_clears_3
def dkwX4_clears_1 : List UInt8 := [167, 255, 234, 3, 61, 28, 7, 162, 0, 23, 42, 180, 0, 7, 16, 40, 7, 27, 104, 96, 28, 96, 3, 79]
abbrev dktX4_clears_1 : List UInt8 := dkwX4_clears_1 ++ dktX4_clears_2
def dkwX4_clears_0 : List UInt8 := [3, 61, 28, 8, 162, 0, 23, 42, 180, 0, 7, 16, 10, 8, 27, 104, 96, 28, 96, 3, 79, 132, 2, 1]
abbrev dktX4_clears_0 : List UInt8 := dkwX4_clears_0 ++ dktX4_clears_1
theorem dksX4_clears_0 : cX4_clears.data.toList.drop 0 = dktX4_clears_0 := by decide +kernel
theorem dksX4_clears_1 : cX4_clears.data.toList.drop 24 = dktX4_clears_1 := dk_seg dksX4_clears_0 24 rfl rfl
theorem dksX4_clears_2 : cX4_clears.data.toList.drop 48 = dktX4_clears_2 := dk_seg dksX4_clears_1 24 rfl rfl
theorem dksX4_clears_3 : cX4_clears.data.toList.drop 72 = dktX4_clears_3 := dk_seg dksX4_clears_2 24 rfl rfl
theorem dX4_clears_0 : decode cX4_clears 0 = .ok (.iconst 0, 1) := dk_3 (dk_at dksX4_clears_0 0 rfl rfl)
theorem dX4_clears_1 : decode cX4_clears 1 = .ok (.istore_n 2, 1) := dk_61 (dk_at dksX4_clears_0 1 rfl rfl)
theorem dX4_clears_2 : decode cX4_clears 2 = .ok (.iload_n 2, 1) := dk_28 (dk_at dksX4_clears_0 2 rfl rfl)
theorem dX4_clears_3 : decode cX4_clears 3 = .ok (.iconst 5, 1) := dk_8 (dk_at dksX4_clears_0 3 rfl rfl)
theorem dX4_clears_4 : decode cX4_clears 4 = .ok (.if_icmp .ge 23, 3) := dk_162 0 23 (dk_at dksX4_clears_0 4 rfl rfl)
theorem dX4_clears_7 : decode cX4_clears 7 = .ok (.aload_n 0, 1) := dk_42 (dk_at dksX4_clears_0 7 rfl rfl)
theorem dX4_clears_8 : decode cX4_clears 8 = .ok (.getfield 7, 3) := dk_180 0 7 (dk_at dksX4_clears_0 8 rfl rfl)
theorem dX4_clears_11 : decode cX4_clears 11 = .ok (.bipush 10, 2) := dk_16 10 (dk_at dksX4_clears_0 11 rfl rfl)
theorem dX4_clears_13 : decode cX4_clears 13 = .ok (.iconst 5, 1) := dk_8 (dk_at dksX4_clears_0 13 rfl rfl)
theorem dX4_clears_14 : decode cX4_clears 14 = .ok (.iload_n 1, 1) := dk_27 (dk_at dksX4_clears_0 14 rfl rfl)
theorem dX4_clears_15 : decode cX4_clears 15 = .ok (.imul, 1) := dk_104 (dk_at dksX4_clears_0 15 rfl rfl)
theorem dX4_clears_16 : decode cX4_clears 16 = .ok (.iadd, 1) := dk_96 (dk_at dksX4_clears_0 16 rfl rfl)
theorem dX4_clears_17 : decode cX4_clears 17 = .ok (.iload_n 2, 1) := dk_28 (dk_at dksX4_clears_0 17 rfl rfl)
theorem dX4_clears_18 : decode cX4_clears 18 = .ok (.iadd, 1) := dk_96 (dk_at dksX4_clears_0 18 rfl rfl)
theorem dX4_clears_19 : decode cX4_clears 19 = .ok (.iconst 0, 1) := dk_3 (dk_at dksX4_clears_0 19 rfl rfl)
theorem dX4_clears_20 : decode cX4_clears 20 = .ok (.iastore, 1) := dk_79 (dk_at dksX4_clears_0 20 rfl rfl)
theorem dX4_clears_21 : decode cX4_clears 21 = .ok (.iinc 2 1, 3) := dk_132 2 1 (dk_at dksX4_clears_0 21 rfl rfl)
theorem dX4_clears_24 : decode cX4_clears 24 = .ok (.goto (-22), 3) := dk_167 255 234 (dk_at dksX4_clears_1 0 rfl rfl)
theorem dX4_clears_27 : decode cX4_clears 27 = .ok (.iconst 0, 1) := dk_3 (dk_at dksX4_clears_1 3 rfl rfl)
theorem dX4_clears_28 : decode cX4_clears 28 = .ok (.istore_n 2, 1) := dk_61 (dk_at dksX4_clears_1 4 rfl rfl)
theorem dX4_clears_29 : decode cX4_clears 29 = .ok (.iload_n 2, 1) := dk_28 (dk_at dksX4_clears_1 5 rfl rfl)
theorem dX4_clears_30 : decode cX4_clears 30 = .ok (.iconst 4, 1) := dk_7 (dk_at dksX4_clears_1 6 rfl rfl)
theorem dX4_clears_31 : decode cX4_clears 31 = .ok (.if_icmp .ge 23, 3) := dk_162 0 23 (dk_at dksX4_clears_1 7 rfl rfl)
theorem dX4_clears_34 : decode cX4_clears 34 = .ok (.aload_n 0, 1) := dk_42 (dk_at dksX4_clears_1 10 rfl rfl)
theorem dX4_clears_35 : decode cX4_clears 35 = .ok (.getfield 7, 3) := dk_180 0 7 (dk_at dksX4_clears_1 11 rfl rfl)
theorem dX4_clears_38 : decode cX4_clears 38 = .ok (.bipush 40, 2) := dk_16 40 (dk_at dksX4_clears_1 14 rfl rfl)
theorem dX4_clears_40 : decode cX4_clears 40 = .ok (.iconst 4, 1) := dk_7 (dk_at dksX4_clears_1 16 rfl rfl)
theorem dX4_clears_41 : decode cX4_clears 41 = .ok (.iload_n 1, 1) := dk_27 (dk_at dksX4_clears_1 17 rfl rfl)
theorem dX4_clears_42 : decode cX4_clears 42 = .ok (.imul, 1) := dk_104 (dk_at dksX4_clears_1 18 rfl rfl)
theorem dX4_clears_43 : decode cX4_clears 43 = .ok (.iadd, 1) := dk_96 (dk_at dksX4_clears_1 19 rfl rfl)
theorem dX4_clears_44 : decode cX4_clears 44 = .ok (.iload_n 2, 1) := dk_28 (dk_at dksX4_clears_1 20 rfl rfl)
theorem dX4_clears_45 : decode cX4_clears 45 = .ok (.iadd, 1) := dk_96 (dk_at dksX4_clears_1 21 rfl rfl)
theorem dX4_clears_46 : decode cX4_clears 46 = .ok (.iconst 0, 1) := dk_3 (dk_at dksX4_clears_1 22 rfl rfl)
theorem dX4_clears_47 : decode cX4_clears 47 = .ok (.iastore, 1) := dk_79 (dk_at dksX4_clears_1 23 rfl rfl)
theorem dX4_clears_48 : decode cX4_clears 48 = .ok (.iinc 2 1, 3) := dk_132 2 1 (dk_at dksX4_clears_2 0 rfl rfl)
theorem dX4_clears_51 : decode cX4_clears 51 = .ok (.goto (-22), 3) := dk_167 255 234 (dk_at dksX4_clears_2 3 rfl rfl)
theorem dX4_clears_54 : decode cX4_clears 54 = .ok (.iconst 0, 1) := dk_3 (dk_at dksX4_clears_2 6 rfl rfl)
theorem dX4_clears_55 : decode cX4_clears 55 = .ok (.istore_n 2, 1) := dk_61 (dk_at dksX4_clears_2 7 rfl rfl)
theorem dX4_clears_56 : decode cX4_clears 56 = .ok (.iload_n 2, 1) := dk_28 (dk_at dksX4_clears_2 8 rfl rfl)
theorem dX4_clears_57 : decode cX4_clears 57 = .ok (.bipush 6, 2) := dk_16 6 (dk_at dksX4_clears_2 9 rfl rfl)
theorem dX4_clears_59 : decode cX4_clears 59 = .ok (.if_icmp .ge 24, 3) := dk_162 0 24 (dk_at dksX4_clears_2 11 rfl rfl)
theorem dX4_clears_62 : decode cX4_clears 62 = .ok (.aload_n 0, 1) := dk_42 (dk_at dksX4_clears_2 14 rfl rfl)
theorem dX4_clears_63 : decode cX4_clears 63 = .ok (.getfield 7, 3) := dk_180 0 7 (dk_at dksX4_clears_2 15 rfl rfl)
theorem dX4_clears_66 : decode cX4_clears 66 = .ok (.bipush 64, 2) := dk_16 64 (dk_at dksX4_clears_2 18 rfl rfl)
theorem dX4_clears_68 : decode cX4_clears 68 = .ok (.bipush 6, 2) := dk_16 6 (dk_at dksX4_clears_2 20 rfl rfl)
theorem dX4_clears_70 : decode cX4_clears 70 = .ok (.iload_n 1, 1) := dk_27 (dk_at dksX4_clears_2 22 rfl rfl)
theorem dX4_clears_71 : decode cX4_clears 71 = .ok (.imul, 1) := dk_104 (dk_at dksX4_clears_2 23 rfl rfl)
theorem dX4_clears_72 : decode cX4_clears 72 = .ok (.iadd, 1) := dk_96 (dk_at dksX4_clears_3 0 rfl rfl)
theorem dX4_clears_73 : decode cX4_clears 73 = .ok (.iload_n 2, 1) := dk_28 (dk_at dksX4_clears_3 1 rfl rfl)
theorem dX4_clears_74 : decode cX4_clears 74 = .ok (.iadd, 1) := dk_96 (dk_at dksX4_clears_3 2 rfl rfl)
theorem dX4_clears_75 : decode cX4_clears 75 = .ok (.iconst 0, 1) := dk_3 (dk_at dksX4_clears_3 3 rfl rfl)
theorem dX4_clears_76 : decode cX4_clears 76 = .ok (.iastore, 1) := dk_79 (dk_at dksX4_clears_3 4 rfl rfl)
theorem dX4_clears_77 : decode cX4_clears 77 = .ok (.iinc 2 1, 3) := dk_132 2 1 (dk_at dksX4_clears_3 5 rfl rfl)
theorem dX4_clears_80 : decode cX4_clears 80 = .ok (.goto (-24), 3) := dk_167 255 232 (dk_at dksX4_clears_3 8 rfl rfl)
theorem dX4_clears_83 : decode cX4_clears 83 = .ok (.return_, 1) := dk_177 (dk_at dksX4_clears_3 11 rfl rfl)
def dkwX4_close_1 : List UInt8 := [46, 172]
abbrev dktX4_close_1 : List UInt8 := dkwX4_close_1 ++ []
def dkwX4_close_0 : List UInt8 := [42, 27, 182, 0, 237, 154, 0, 5, 2, 172, 42, 182, 0, 234, 42, 27, 182, 0, 249, 42, 180, 0, 7, 4]
abbrev dktX4_close_0 : List UInt8 := dkwX4_close_0 ++ dktX4_close_1
theorem dksX4_close_0 : cX4_close.data.toList.drop 0 = dktX4_close_0 := by decide +kernel
theorem dksX4_close_1 : cX4_close.data.toList.drop 24 = dktX4_close_1 := dk_seg dksX4_close_0 24 rfl rfl
theorem dX4_close_0 : decode cX4_close 0 = .ok (.aload_n 0, 1) := dk_42 (dk_at dksX4_close_0 0 rfl rfl)
theorem dX4_close_1 : decode cX4_close 1 = .ok (.iload_n 1, 1) := dk_27 (dk_at dksX4_close_0 1 rfl rfl)
theorem dX4_close_2 : decode cX4_close 2 = .ok (.invokevirtual 237, 3) := dk_182 0 237 (dk_at dksX4_close_0 2 rfl rfl)
theorem dX4_close_5 : decode cX4_close 5 = .ok (.ifCond .ne 5, 3) := dk_154 0 5 (dk_at dksX4_close_0 5 rfl rfl)
theorem dX4_close_8 : decode cX4_close 8 = .ok (.iconst (-1), 1) := dk_2 (dk_at dksX4_close_0 8 rfl rfl)
theorem dX4_close_9 : decode cX4_close 9 = .ok (.ireturn, 1) := dk_172 (dk_at dksX4_close_0 9 rfl rfl)
theorem dX4_close_10 : decode cX4_close 10 = .ok (.aload_n 0, 1) := dk_42 (dk_at dksX4_close_0 10 rfl rfl)
theorem dX4_close_11 : decode cX4_close 11 = .ok (.invokevirtual 234, 3) := dk_182 0 234 (dk_at dksX4_close_0 11 rfl rfl)
theorem dX4_close_14 : decode cX4_close 14 = .ok (.aload_n 0, 1) := dk_42 (dk_at dksX4_close_0 14 rfl rfl)
theorem dX4_close_15 : decode cX4_close 15 = .ok (.iload_n 1, 1) := dk_27 (dk_at dksX4_close_0 15 rfl rfl)
theorem dX4_close_16 : decode cX4_close 16 = .ok (.invokevirtual 249, 3) := dk_182 0 249 (dk_at dksX4_close_0 16 rfl rfl)
theorem dX4_close_19 : decode cX4_close 19 = .ok (.aload_n 0, 1) := dk_42 (dk_at dksX4_close_0 19 rfl rfl)
theorem dX4_close_20 : decode cX4_close 20 = .ok (.getfield 7, 3) := dk_180 0 7 (dk_at dksX4_close_0 20 rfl rfl)
theorem dX4_close_23 : decode cX4_close 23 = .ok (.iconst 1, 1) := dk_4 (dk_at dksX4_close_0 23 rfl rfl)
theorem dX4_close_24 : decode cX4_close 24 = .ok (.iaload, 1) := dk_46 (dk_at dksX4_close_1 0 rfl rfl)
theorem dX4_close_25 : decode cX4_close 25 = .ok (.ireturn, 1) := dk_172 (dk_at dksX4_close_1 1 rfl rfl)
def dkwX4_live_11 : List UInt8 := [132, 2, 1, 167, 255, 199, 27, 172]
abbrev dktX4_live_11 : List UInt8 := dkwX4_live_11 ++ []
def dkwX4_live_10 : List UInt8 := [28, 46, 104, 100, 62, 42, 180, 0, 7, 5, 28, 96, 29, 4, 162, 0, 7, 4, 167, 0, 4, 29, 79]
abbrev dktX4_live_10 : List UInt8 := dkwX4_live_10 ++ dktX4_live_11
def dkwX4_live_9 : List UInt8 := [162, 0, 53, 42, 180, 0, 7, 5, 28, 96, 46, 42, 180, 0, 7, 16, 6, 28, 96, 46, 42, 180, 0, 22]
abbrev dktX4_live_9 : List UInt8 := dkwX4_live_9 ++ dktX4_live_10
def dkwX4_live_8 : List UInt8 := [160, 0, 8, 42, 28, 182, 1, 8, 132, 2, 1, 167, 255, 226, 3, 61, 28, 42, 180, 0, 7, 3, 46]
abbrev dktX4_live_8 : List UInt8 := dkwX4_live_8 ++ dktX4_live_9
def dkwX4_live_7 : List UInt8 := [167, 255, 238, 3, 61, 28, 42, 180, 0, 7, 4, 46, 162, 0, 26, 42, 180, 0, 184, 28, 122, 4, 126, 4]
abbrev dktX4_live_7 : List UInt8 := dkwX4_live_7 ++ dktX4_live_8
def dkwX4_live_6 : List UInt8 := [167, 255, 198, 3, 61, 28, 42, 180, 0, 7, 4, 46, 162, 0, 14, 42, 28, 182, 1, 5, 132, 2, 1]
abbrev dktX4_live_6 : List UInt8 := dkwX4_live_6 ++ dktX4_live_7
def dkwX4_live_5 : List UInt8 := [104, 21, 4, 96, 42, 28, 21, 4, 29, 182, 0, 199, 79, 132, 4, 1, 167, 255, 223, 132, 2, 1]
abbrev dktX4_live_5 : List UInt8 := dkwX4_live_5 ++ dktX4_live_6
def dkwX4_live_4 : List UInt8 := [182, 0, 196, 62, 3, 54, 4, 21, 4, 42, 180, 0, 7, 3, 46, 162, 0, 28, 42, 180, 0, 50, 7, 28]
abbrev dktX4_live_4 : List UInt8 := dkwX4_live_4 ++ dktX4_live_5
def dkwX4_live_3 : List UInt8 := [182, 0, 178, 79, 132, 2, 1, 167, 255, 214, 3, 61, 28, 42, 180, 0, 7, 4, 46, 162, 0, 54, 42, 28]
abbrev dktX4_live_3 : List UInt8 := dkwX4_live_3 ++ dktX4_live_4
def dkwX4_live_2 : List UInt8 := [180, 0, 44, 28, 42, 180, 0, 22, 28, 46, 79, 42, 180, 0, 47, 28, 42, 28, 42, 180, 0, 22, 28, 46]
abbrev dktX4_live_2 : List UInt8 := dkwX4_live_2 ++ dktX4_live_3
def dkwX4_live_1 : List UInt8 := [154, 0, 5, 2, 172, 42, 182, 0, 234, 3, 61, 28, 42, 180, 0, 7, 3, 46, 162, 0, 38, 42]
abbrev dktX4_live_1 : List UInt8 := dkwX4_live_1 ++ dktX4_live_2
def dkwX4_live_0 : List UInt8 := [42, 182, 0, 252, 42, 182, 0, 255, 42, 16, 7, 182, 1, 2, 60, 27, 154, 0, 12, 42, 180, 0, 184]
abbrev dktX4_live_0 : List UInt8 := dkwX4_live_0 ++ dktX4_live_1
theorem dksX4_live_0 : cX4_live.data.toList.drop 0 = dktX4_live_0 := by decide +kernel
theorem dksX4_live_1 : cX4_live.data.toList.drop 23 = dktX4_live_1 := dk_seg dksX4_live_0 23 rfl rfl
theorem dksX4_live_2 : cX4_live.data.toList.drop 45 = dktX4_live_2 := dk_seg dksX4_live_1 22 rfl rfl
theorem dksX4_live_3 : cX4_live.data.toList.drop 69 = dktX4_live_3 := dk_seg dksX4_live_2 24 rfl rfl
theorem dksX4_live_4 : cX4_live.data.toList.drop 93 = dktX4_live_4 := dk_seg dksX4_live_3 24 rfl rfl
theorem dksX4_live_5 : cX4_live.data.toList.drop 117 = dktX4_live_5 := dk_seg dksX4_live_4 24 rfl rfl
theorem dksX4_live_6 : cX4_live.data.toList.drop 139 = dktX4_live_6 := dk_seg dksX4_live_5 22 rfl rfl
theorem dksX4_live_7 : cX4_live.data.toList.drop 162 = dktX4_live_7 := dk_seg dksX4_live_6 23 rfl rfl
theorem dksX4_live_8 : cX4_live.data.toList.drop 186 = dktX4_live_8 := dk_seg dksX4_live_7 24 rfl rfl
theorem dksX4_live_9 : cX4_live.data.toList.drop 209 = dktX4_live_9 := dk_seg dksX4_live_8 23 rfl rfl
theorem dksX4_live_10 : cX4_live.data.toList.drop 233 = dktX4_live_10 := dk_seg dksX4_live_9 24 rfl rfl
theorem dksX4_live_11 : cX4_live.data.toList.drop 256 = dktX4_live_11 := dk_seg dksX4_live_10 23 rfl rfl
theorem dX4_live_0 : decode cX4_live 0 = .ok (.aload_n 0, 1) := dk_42 (dk_at dksX4_live_0 0 rfl rfl)
theorem dX4_live_1 : decode cX4_live 1 = .ok (.invokevirtual 252, 3) := dk_182 0 252 (dk_at dksX4_live_0 1 rfl rfl)
theorem dX4_live_4 : decode cX4_live 4 = .ok (.aload_n 0, 1) := dk_42 (dk_at dksX4_live_0 4 rfl rfl)
theorem dX4_live_5 : decode cX4_live 5 = .ok (.invokevirtual 255, 3) := dk_182 0 255 (dk_at dksX4_live_0 5 rfl rfl)
theorem dX4_live_8 : decode cX4_live 8 = .ok (.aload_n 0, 1) := dk_42 (dk_at dksX4_live_0 8 rfl rfl)
theorem dX4_live_9 : decode cX4_live 9 = .ok (.bipush 7, 2) := dk_16 7 (dk_at dksX4_live_0 9 rfl rfl)
theorem dX4_live_11 : decode cX4_live 11 = .ok (.invokevirtual 258, 3) := dk_182 1 2 (dk_at dksX4_live_0 11 rfl rfl)
theorem dX4_live_14 : decode cX4_live 14 = .ok (.istore_n 1, 1) := dk_60 (dk_at dksX4_live_0 14 rfl rfl)
theorem dX4_live_15 : decode cX4_live 15 = .ok (.iload_n 1, 1) := dk_27 (dk_at dksX4_live_0 15 rfl rfl)
theorem dX4_live_16 : decode cX4_live 16 = .ok (.ifCond .ne 12, 3) := dk_154 0 12 (dk_at dksX4_live_0 16 rfl rfl)
theorem dX4_live_19 : decode cX4_live 19 = .ok (.aload_n 0, 1) := dk_42 (dk_at dksX4_live_0 19 rfl rfl)
theorem dX4_live_20 : decode cX4_live 20 = .ok (.getfield 184, 3) := dk_180 0 184 (dk_at dksX4_live_0 20 rfl rfl)
theorem dX4_live_23 : decode cX4_live 23 = .ok (.ifCond .ne 5, 3) := dk_154 0 5 (dk_at dksX4_live_1 0 rfl rfl)
theorem dX4_live_26 : decode cX4_live 26 = .ok (.iconst (-1), 1) := dk_2 (dk_at dksX4_live_1 3 rfl rfl)
theorem dX4_live_27 : decode cX4_live 27 = .ok (.ireturn, 1) := dk_172 (dk_at dksX4_live_1 4 rfl rfl)
theorem dX4_live_28 : decode cX4_live 28 = .ok (.aload_n 0, 1) := dk_42 (dk_at dksX4_live_1 5 rfl rfl)
theorem dX4_live_29 : decode cX4_live 29 = .ok (.invokevirtual 234, 3) := dk_182 0 234 (dk_at dksX4_live_1 6 rfl rfl)
theorem dX4_live_32 : decode cX4_live 32 = .ok (.iconst 0, 1) := dk_3 (dk_at dksX4_live_1 9 rfl rfl)
theorem dX4_live_33 : decode cX4_live 33 = .ok (.istore_n 2, 1) := dk_61 (dk_at dksX4_live_1 10 rfl rfl)
theorem dX4_live_34 : decode cX4_live 34 = .ok (.iload_n 2, 1) := dk_28 (dk_at dksX4_live_1 11 rfl rfl)
theorem dX4_live_35 : decode cX4_live 35 = .ok (.aload_n 0, 1) := dk_42 (dk_at dksX4_live_1 12 rfl rfl)
theorem dX4_live_36 : decode cX4_live 36 = .ok (.getfield 7, 3) := dk_180 0 7 (dk_at dksX4_live_1 13 rfl rfl)
theorem dX4_live_39 : decode cX4_live 39 = .ok (.iconst 0, 1) := dk_3 (dk_at dksX4_live_1 16 rfl rfl)
theorem dX4_live_40 : decode cX4_live 40 = .ok (.iaload, 1) := dk_46 (dk_at dksX4_live_1 17 rfl rfl)
theorem dX4_live_41 : decode cX4_live 41 = .ok (.if_icmp .ge 38, 3) := dk_162 0 38 (dk_at dksX4_live_1 18 rfl rfl)
theorem dX4_live_44 : decode cX4_live 44 = .ok (.aload_n 0, 1) := dk_42 (dk_at dksX4_live_1 21 rfl rfl)
theorem dX4_live_45 : decode cX4_live 45 = .ok (.getfield 44, 3) := dk_180 0 44 (dk_at dksX4_live_2 0 rfl rfl)
theorem dX4_live_48 : decode cX4_live 48 = .ok (.iload_n 2, 1) := dk_28 (dk_at dksX4_live_2 3 rfl rfl)
theorem dX4_live_49 : decode cX4_live 49 = .ok (.aload_n 0, 1) := dk_42 (dk_at dksX4_live_2 4 rfl rfl)
theorem dX4_live_50 : decode cX4_live 50 = .ok (.getfield 22, 3) := dk_180 0 22 (dk_at dksX4_live_2 5 rfl rfl)
theorem dX4_live_53 : decode cX4_live 53 = .ok (.iload_n 2, 1) := dk_28 (dk_at dksX4_live_2 8 rfl rfl)
theorem dX4_live_54 : decode cX4_live 54 = .ok (.iaload, 1) := dk_46 (dk_at dksX4_live_2 9 rfl rfl)
theorem dX4_live_55 : decode cX4_live 55 = .ok (.iastore, 1) := dk_79 (dk_at dksX4_live_2 10 rfl rfl)
theorem dX4_live_56 : decode cX4_live 56 = .ok (.aload_n 0, 1) := dk_42 (dk_at dksX4_live_2 11 rfl rfl)
theorem dX4_live_57 : decode cX4_live 57 = .ok (.getfield 47, 3) := dk_180 0 47 (dk_at dksX4_live_2 12 rfl rfl)
theorem dX4_live_60 : decode cX4_live 60 = .ok (.iload_n 2, 1) := dk_28 (dk_at dksX4_live_2 15 rfl rfl)
theorem dX4_live_61 : decode cX4_live 61 = .ok (.aload_n 0, 1) := dk_42 (dk_at dksX4_live_2 16 rfl rfl)
theorem dX4_live_62 : decode cX4_live 62 = .ok (.iload_n 2, 1) := dk_28 (dk_at dksX4_live_2 17 rfl rfl)
theorem dX4_live_63 : decode cX4_live 63 = .ok (.aload_n 0, 1) := dk_42 (dk_at dksX4_live_2 18 rfl rfl)
theorem dX4_live_64 : decode cX4_live 64 = .ok (.getfield 22, 3) := dk_180 0 22 (dk_at dksX4_live_2 19 rfl rfl)
theorem dX4_live_67 : decode cX4_live 67 = .ok (.iload_n 2, 1) := dk_28 (dk_at dksX4_live_2 22 rfl rfl)
theorem dX4_live_68 : decode cX4_live 68 = .ok (.iaload, 1) := dk_46 (dk_at dksX4_live_2 23 rfl rfl)
theorem dX4_live_69 : decode cX4_live 69 = .ok (.invokevirtual 178, 3) := dk_182 0 178 (dk_at dksX4_live_3 0 rfl rfl)
theorem dX4_live_72 : decode cX4_live 72 = .ok (.iastore, 1) := dk_79 (dk_at dksX4_live_3 3 rfl rfl)
theorem dX4_live_73 : decode cX4_live 73 = .ok (.iinc 2 1, 3) := dk_132 2 1 (dk_at dksX4_live_3 4 rfl rfl)
theorem dX4_live_76 : decode cX4_live 76 = .ok (.goto (-42), 3) := dk_167 255 214 (dk_at dksX4_live_3 7 rfl rfl)
theorem dX4_live_79 : decode cX4_live 79 = .ok (.iconst 0, 1) := dk_3 (dk_at dksX4_live_3 10 rfl rfl)
theorem dX4_live_80 : decode cX4_live 80 = .ok (.istore_n 2, 1) := dk_61 (dk_at dksX4_live_3 11 rfl rfl)
theorem dX4_live_81 : decode cX4_live 81 = .ok (.iload_n 2, 1) := dk_28 (dk_at dksX4_live_3 12 rfl rfl)
theorem dX4_live_82 : decode cX4_live 82 = .ok (.aload_n 0, 1) := dk_42 (dk_at dksX4_live_3 13 rfl rfl)
theorem dX4_live_83 : decode cX4_live 83 = .ok (.getfield 7, 3) := dk_180 0 7 (dk_at dksX4_live_3 14 rfl rfl)
theorem dX4_live_86 : decode cX4_live 86 = .ok (.iconst 1, 1) := dk_4 (dk_at dksX4_live_3 17 rfl rfl)
theorem dX4_live_87 : decode cX4_live 87 = .ok (.iaload, 1) := dk_46 (dk_at dksX4_live_3 18 rfl rfl)
theorem dX4_live_88 : decode cX4_live 88 = .ok (.if_icmp .ge 54, 3) := dk_162 0 54 (dk_at dksX4_live_3 19 rfl rfl)
theorem dX4_live_91 : decode cX4_live 91 = .ok (.aload_n 0, 1) := dk_42 (dk_at dksX4_live_3 22 rfl rfl)
theorem dX4_live_92 : decode cX4_live 92 = .ok (.iload_n 2, 1) := dk_28 (dk_at dksX4_live_3 23 rfl rfl)
theorem dX4_live_93 : decode cX4_live 93 = .ok (.invokevirtual 196, 3) := dk_182 0 196 (dk_at dksX4_live_4 0 rfl rfl)
theorem dX4_live_96 : decode cX4_live 96 = .ok (.istore_n 3, 1) := dk_62 (dk_at dksX4_live_4 3 rfl rfl)
theorem dX4_live_97 : decode cX4_live 97 = .ok (.iconst 0, 1) := dk_3 (dk_at dksX4_live_4 4 rfl rfl)
theorem dX4_live_98 : decode cX4_live 98 = .ok (.istore 4, 2) := dk_54 4 (dk_at dksX4_live_4 5 rfl rfl)
theorem dX4_live_100 : decode cX4_live 100 = .ok (.iload 4, 2) := dk_21 4 (dk_at dksX4_live_4 7 rfl rfl)
theorem dX4_live_102 : decode cX4_live 102 = .ok (.aload_n 0, 1) := dk_42 (dk_at dksX4_live_4 9 rfl rfl)
theorem dX4_live_103 : decode cX4_live 103 = .ok (.getfield 7, 3) := dk_180 0 7 (dk_at dksX4_live_4 10 rfl rfl)
theorem dX4_live_106 : decode cX4_live 106 = .ok (.iconst 0, 1) := dk_3 (dk_at dksX4_live_4 13 rfl rfl)
theorem dX4_live_107 : decode cX4_live 107 = .ok (.iaload, 1) := dk_46 (dk_at dksX4_live_4 14 rfl rfl)
theorem dX4_live_108 : decode cX4_live 108 = .ok (.if_icmp .ge 28, 3) := dk_162 0 28 (dk_at dksX4_live_4 15 rfl rfl)
theorem dX4_live_111 : decode cX4_live 111 = .ok (.aload_n 0, 1) := dk_42 (dk_at dksX4_live_4 18 rfl rfl)
theorem dX4_live_112 : decode cX4_live 112 = .ok (.getfield 50, 3) := dk_180 0 50 (dk_at dksX4_live_4 19 rfl rfl)
theorem dX4_live_115 : decode cX4_live 115 = .ok (.iconst 4, 1) := dk_7 (dk_at dksX4_live_4 22 rfl rfl)
theorem dX4_live_116 : decode cX4_live 116 = .ok (.iload_n 2, 1) := dk_28 (dk_at dksX4_live_4 23 rfl rfl)
theorem dX4_live_117 : decode cX4_live 117 = .ok (.imul, 1) := dk_104 (dk_at dksX4_live_5 0 rfl rfl)
theorem dX4_live_118 : decode cX4_live 118 = .ok (.iload 4, 2) := dk_21 4 (dk_at dksX4_live_5 1 rfl rfl)
theorem dX4_live_120 : decode cX4_live 120 = .ok (.iadd, 1) := dk_96 (dk_at dksX4_live_5 3 rfl rfl)
theorem dX4_live_121 : decode cX4_live 121 = .ok (.aload_n 0, 1) := dk_42 (dk_at dksX4_live_5 4 rfl rfl)
theorem dX4_live_122 : decode cX4_live 122 = .ok (.iload_n 2, 1) := dk_28 (dk_at dksX4_live_5 5 rfl rfl)
theorem dX4_live_123 : decode cX4_live 123 = .ok (.iload 4, 2) := dk_21 4 (dk_at dksX4_live_5 6 rfl rfl)
theorem dX4_live_125 : decode cX4_live 125 = .ok (.iload_n 3, 1) := dk_29 (dk_at dksX4_live_5 8 rfl rfl)
theorem dX4_live_126 : decode cX4_live 126 = .ok (.invokevirtual 199, 3) := dk_182 0 199 (dk_at dksX4_live_5 9 rfl rfl)
theorem dX4_live_129 : decode cX4_live 129 = .ok (.iastore, 1) := dk_79 (dk_at dksX4_live_5 12 rfl rfl)
theorem dX4_live_130 : decode cX4_live 130 = .ok (.iinc 4 1, 3) := dk_132 4 1 (dk_at dksX4_live_5 13 rfl rfl)
theorem dX4_live_133 : decode cX4_live 133 = .ok (.goto (-33), 3) := dk_167 255 223 (dk_at dksX4_live_5 16 rfl rfl)
theorem dX4_live_136 : decode cX4_live 136 = .ok (.iinc 2 1, 3) := dk_132 2 1 (dk_at dksX4_live_5 19 rfl rfl)
theorem dX4_live_139 : decode cX4_live 139 = .ok (.goto (-58), 3) := dk_167 255 198 (dk_at dksX4_live_6 0 rfl rfl)
theorem dX4_live_142 : decode cX4_live 142 = .ok (.iconst 0, 1) := dk_3 (dk_at dksX4_live_6 3 rfl rfl)
theorem dX4_live_143 : decode cX4_live 143 = .ok (.istore_n 2, 1) := dk_61 (dk_at dksX4_live_6 4 rfl rfl)
theorem dX4_live_144 : decode cX4_live 144 = .ok (.iload_n 2, 1) := dk_28 (dk_at dksX4_live_6 5 rfl rfl)
theorem dX4_live_145 : decode cX4_live 145 = .ok (.aload_n 0, 1) := dk_42 (dk_at dksX4_live_6 6 rfl rfl)
theorem dX4_live_146 : decode cX4_live 146 = .ok (.getfield 7, 3) := dk_180 0 7 (dk_at dksX4_live_6 7 rfl rfl)
theorem dX4_live_149 : decode cX4_live 149 = .ok (.iconst 1, 1) := dk_4 (dk_at dksX4_live_6 10 rfl rfl)
theorem dX4_live_150 : decode cX4_live 150 = .ok (.iaload, 1) := dk_46 (dk_at dksX4_live_6 11 rfl rfl)
theorem dX4_live_151 : decode cX4_live 151 = .ok (.if_icmp .ge 14, 3) := dk_162 0 14 (dk_at dksX4_live_6 12 rfl rfl)
theorem dX4_live_154 : decode cX4_live 154 = .ok (.aload_n 0, 1) := dk_42 (dk_at dksX4_live_6 15 rfl rfl)
theorem dX4_live_155 : decode cX4_live 155 = .ok (.iload_n 2, 1) := dk_28 (dk_at dksX4_live_6 16 rfl rfl)
theorem dX4_live_156 : decode cX4_live 156 = .ok (.invokevirtual 261, 3) := dk_182 1 5 (dk_at dksX4_live_6 17 rfl rfl)
theorem dX4_live_159 : decode cX4_live 159 = .ok (.iinc 2 1, 3) := dk_132 2 1 (dk_at dksX4_live_6 20 rfl rfl)
theorem dX4_live_162 : decode cX4_live 162 = .ok (.goto (-18), 3) := dk_167 255 238 (dk_at dksX4_live_7 0 rfl rfl)
theorem dX4_live_165 : decode cX4_live 165 = .ok (.iconst 0, 1) := dk_3 (dk_at dksX4_live_7 3 rfl rfl)
theorem dX4_live_166 : decode cX4_live 166 = .ok (.istore_n 2, 1) := dk_61 (dk_at dksX4_live_7 4 rfl rfl)
theorem dX4_live_167 : decode cX4_live 167 = .ok (.iload_n 2, 1) := dk_28 (dk_at dksX4_live_7 5 rfl rfl)
theorem dX4_live_168 : decode cX4_live 168 = .ok (.aload_n 0, 1) := dk_42 (dk_at dksX4_live_7 6 rfl rfl)
theorem dX4_live_169 : decode cX4_live 169 = .ok (.getfield 7, 3) := dk_180 0 7 (dk_at dksX4_live_7 7 rfl rfl)
theorem dX4_live_172 : decode cX4_live 172 = .ok (.iconst 1, 1) := dk_4 (dk_at dksX4_live_7 10 rfl rfl)
theorem dX4_live_173 : decode cX4_live 173 = .ok (.iaload, 1) := dk_46 (dk_at dksX4_live_7 11 rfl rfl)
theorem dX4_live_174 : decode cX4_live 174 = .ok (.if_icmp .ge 26, 3) := dk_162 0 26 (dk_at dksX4_live_7 12 rfl rfl)
theorem dX4_live_177 : decode cX4_live 177 = .ok (.aload_n 0, 1) := dk_42 (dk_at dksX4_live_7 15 rfl rfl)
theorem dX4_live_178 : decode cX4_live 178 = .ok (.getfield 184, 3) := dk_180 0 184 (dk_at dksX4_live_7 16 rfl rfl)
theorem dX4_live_181 : decode cX4_live 181 = .ok (.iload_n 2, 1) := dk_28 (dk_at dksX4_live_7 19 rfl rfl)
theorem dX4_live_182 : decode cX4_live 182 = .ok (.ishr, 1) := dk_122 (dk_at dksX4_live_7 20 rfl rfl)
theorem dX4_live_183 : decode cX4_live 183 = .ok (.iconst 1, 1) := dk_4 (dk_at dksX4_live_7 21 rfl rfl)
theorem dX4_live_184 : decode cX4_live 184 = .ok (.iand, 1) := dk_126 (dk_at dksX4_live_7 22 rfl rfl)
theorem dX4_live_185 : decode cX4_live 185 = .ok (.iconst 1, 1) := dk_4 (dk_at dksX4_live_7 23 rfl rfl)
theorem dX4_live_186 : decode cX4_live 186 = .ok (.if_icmp .ne 8, 3) := dk_160 0 8 (dk_at dksX4_live_8 0 rfl rfl)
theorem dX4_live_189 : decode cX4_live 189 = .ok (.aload_n 0, 1) := dk_42 (dk_at dksX4_live_8 3 rfl rfl)
theorem dX4_live_190 : decode cX4_live 190 = .ok (.iload_n 2, 1) := dk_28 (dk_at dksX4_live_8 4 rfl rfl)
theorem dX4_live_191 : decode cX4_live 191 = .ok (.invokevirtual 264, 3) := dk_182 1 8 (dk_at dksX4_live_8 5 rfl rfl)
theorem dX4_live_194 : decode cX4_live 194 = .ok (.iinc 2 1, 3) := dk_132 2 1 (dk_at dksX4_live_8 8 rfl rfl)
theorem dX4_live_197 : decode cX4_live 197 = .ok (.goto (-30), 3) := dk_167 255 226 (dk_at dksX4_live_8 11 rfl rfl)
theorem dX4_live_200 : decode cX4_live 200 = .ok (.iconst 0, 1) := dk_3 (dk_at dksX4_live_8 14 rfl rfl)
theorem dX4_live_201 : decode cX4_live 201 = .ok (.istore_n 2, 1) := dk_61 (dk_at dksX4_live_8 15 rfl rfl)
theorem dX4_live_202 : decode cX4_live 202 = .ok (.iload_n 2, 1) := dk_28 (dk_at dksX4_live_8 16 rfl rfl)
theorem dX4_live_203 : decode cX4_live 203 = .ok (.aload_n 0, 1) := dk_42 (dk_at dksX4_live_8 17 rfl rfl)
theorem dX4_live_204 : decode cX4_live 204 = .ok (.getfield 7, 3) := dk_180 0 7 (dk_at dksX4_live_8 18 rfl rfl)
theorem dX4_live_207 : decode cX4_live 207 = .ok (.iconst 0, 1) := dk_3 (dk_at dksX4_live_8 21 rfl rfl)
theorem dX4_live_208 : decode cX4_live 208 = .ok (.iaload, 1) := dk_46 (dk_at dksX4_live_8 22 rfl rfl)
theorem dX4_live_209 : decode cX4_live 209 = .ok (.if_icmp .ge 53, 3) := dk_162 0 53 (dk_at dksX4_live_9 0 rfl rfl)
theorem dX4_live_212 : decode cX4_live 212 = .ok (.aload_n 0, 1) := dk_42 (dk_at dksX4_live_9 3 rfl rfl)
theorem dX4_live_213 : decode cX4_live 213 = .ok (.getfield 7, 3) := dk_180 0 7 (dk_at dksX4_live_9 4 rfl rfl)
theorem dX4_live_216 : decode cX4_live 216 = .ok (.iconst 2, 1) := dk_5 (dk_at dksX4_live_9 7 rfl rfl)
theorem dX4_live_217 : decode cX4_live 217 = .ok (.iload_n 2, 1) := dk_28 (dk_at dksX4_live_9 8 rfl rfl)
theorem dX4_live_218 : decode cX4_live 218 = .ok (.iadd, 1) := dk_96 (dk_at dksX4_live_9 9 rfl rfl)
theorem dX4_live_219 : decode cX4_live 219 = .ok (.iaload, 1) := dk_46 (dk_at dksX4_live_9 10 rfl rfl)
theorem dX4_live_220 : decode cX4_live 220 = .ok (.aload_n 0, 1) := dk_42 (dk_at dksX4_live_9 11 rfl rfl)
theorem dX4_live_221 : decode cX4_live 221 = .ok (.getfield 7, 3) := dk_180 0 7 (dk_at dksX4_live_9 12 rfl rfl)
theorem dX4_live_224 : decode cX4_live 224 = .ok (.bipush 6, 2) := dk_16 6 (dk_at dksX4_live_9 15 rfl rfl)
theorem dX4_live_226 : decode cX4_live 226 = .ok (.iload_n 2, 1) := dk_28 (dk_at dksX4_live_9 17 rfl rfl)
theorem dX4_live_227 : decode cX4_live 227 = .ok (.iadd, 1) := dk_96 (dk_at dksX4_live_9 18 rfl rfl)
theorem dX4_live_228 : decode cX4_live 228 = .ok (.iaload, 1) := dk_46 (dk_at dksX4_live_9 19 rfl rfl)
theorem dX4_live_229 : decode cX4_live 229 = .ok (.aload_n 0, 1) := dk_42 (dk_at dksX4_live_9 20 rfl rfl)
theorem dX4_live_230 : decode cX4_live 230 = .ok (.getfield 22, 3) := dk_180 0 22 (dk_at dksX4_live_9 21 rfl rfl)
theorem dX4_live_233 : decode cX4_live 233 = .ok (.iload_n 2, 1) := dk_28 (dk_at dksX4_live_10 0 rfl rfl)
theorem dX4_live_234 : decode cX4_live 234 = .ok (.iaload, 1) := dk_46 (dk_at dksX4_live_10 1 rfl rfl)
theorem dX4_live_235 : decode cX4_live 235 = .ok (.imul, 1) := dk_104 (dk_at dksX4_live_10 2 rfl rfl)
theorem dX4_live_236 : decode cX4_live 236 = .ok (.isub, 1) := dk_100 (dk_at dksX4_live_10 3 rfl rfl)
theorem dX4_live_237 : decode cX4_live 237 = .ok (.istore_n 3, 1) := dk_62 (dk_at dksX4_live_10 4 rfl rfl)
theorem dX4_live_238 : decode cX4_live 238 = .ok (.aload_n 0, 1) := dk_42 (dk_at dksX4_live_10 5 rfl rfl)
theorem dX4_live_239 : decode cX4_live 239 = .ok (.getfield 7, 3) := dk_180 0 7 (dk_at dksX4_live_10 6 rfl rfl)
theorem dX4_live_242 : decode cX4_live 242 = .ok (.iconst 2, 1) := dk_5 (dk_at dksX4_live_10 9 rfl rfl)
theorem dX4_live_243 : decode cX4_live 243 = .ok (.iload_n 2, 1) := dk_28 (dk_at dksX4_live_10 10 rfl rfl)
theorem dX4_live_244 : decode cX4_live 244 = .ok (.iadd, 1) := dk_96 (dk_at dksX4_live_10 11 rfl rfl)
theorem dX4_live_245 : decode cX4_live 245 = .ok (.iload_n 3, 1) := dk_29 (dk_at dksX4_live_10 12 rfl rfl)
theorem dX4_live_246 : decode cX4_live 246 = .ok (.iconst 1, 1) := dk_4 (dk_at dksX4_live_10 13 rfl rfl)
theorem dX4_live_247 : decode cX4_live 247 = .ok (.if_icmp .ge 7, 3) := dk_162 0 7 (dk_at dksX4_live_10 14 rfl rfl)
theorem dX4_live_250 : decode cX4_live 250 = .ok (.iconst 1, 1) := dk_4 (dk_at dksX4_live_10 17 rfl rfl)
theorem dX4_live_251 : decode cX4_live 251 = .ok (.goto 4, 3) := dk_167 0 4 (dk_at dksX4_live_10 18 rfl rfl)
theorem dX4_live_254 : decode cX4_live 254 = .ok (.iload_n 3, 1) := dk_29 (dk_at dksX4_live_10 21 rfl rfl)
theorem dX4_live_255 : decode cX4_live 255 = .ok (.iastore, 1) := dk_79 (dk_at dksX4_live_10 22 rfl rfl)
theorem dX4_live_256 : decode cX4_live 256 = .ok (.iinc 2 1, 3) := dk_132 2 1 (dk_at dksX4_live_11 0 rfl rfl)
theorem dX4_live_259 : decode cX4_live 259 = .ok (.goto (-57), 3) := dk_167 255 199 (dk_at dksX4_live_11 3 rfl rfl)
theorem dX4_live_262 : decode cX4_live 262 = .ok (.iload_n 1, 1) := dk_27 (dk_at dksX4_live_11 6 rfl rfl)
theorem dX4_live_263 : decode cX4_live 263 = .ok (.ireturn, 1) := dk_172 (dk_at dksX4_live_11 7 rfl rfl)
def dkwX4_plain_2 : List UInt8 := [181, 0, 162, 42, 16, 100, 181, 0, 41, 42, 3, 181, 0, 165, 177]
abbrev dktX4_plain_2 : List UInt8 := dkwX4_plain_2 ++ []
def dkwX4_plain_1 : List UInt8 := [181, 0, 31, 42, 17, 1, 104, 181, 0, 35, 42, 3, 181, 0, 159, 42, 2, 181, 0, 38, 42, 3]
abbrev dktX4_plain_1 : List UInt8 := dkwX4_plain_1 ++ dktX4_plain_2
def dkwX4_plain_0 : List UInt8 := [3, 60, 27, 16, 6, 162, 0, 16, 42, 180, 0, 28, 27, 3, 79, 132, 1, 1, 167, 255, 240, 42, 2]
abbrev dktX4_plain_0 : List UInt8 := dkwX4_plain_0 ++ dktX4_plain_1
theorem dksX4_plain_0 : cX4_plain.data.toList.drop 0 = dktX4_plain_0 := by decide +kernel
theorem dksX4_plain_1 : cX4_plain.data.toList.drop 23 = dktX4_plain_1 := dk_seg dksX4_plain_0 23 rfl rfl
theorem dksX4_plain_2 : cX4_plain.data.toList.drop 45 = dktX4_plain_2 := dk_seg dksX4_plain_1 22 rfl rfl
theorem dX4_plain_0 : decode cX4_plain 0 = .ok (.iconst 0, 1) := dk_3 (dk_at dksX4_plain_0 0 rfl rfl)
theorem dX4_plain_1 : decode cX4_plain 1 = .ok (.istore_n 1, 1) := dk_60 (dk_at dksX4_plain_0 1 rfl rfl)
theorem dX4_plain_2 : decode cX4_plain 2 = .ok (.iload_n 1, 1) := dk_27 (dk_at dksX4_plain_0 2 rfl rfl)
theorem dX4_plain_3 : decode cX4_plain 3 = .ok (.bipush 6, 2) := dk_16 6 (dk_at dksX4_plain_0 3 rfl rfl)
theorem dX4_plain_5 : decode cX4_plain 5 = .ok (.if_icmp .ge 16, 3) := dk_162 0 16 (dk_at dksX4_plain_0 5 rfl rfl)
theorem dX4_plain_8 : decode cX4_plain 8 = .ok (.aload_n 0, 1) := dk_42 (dk_at dksX4_plain_0 8 rfl rfl)
theorem dX4_plain_9 : decode cX4_plain 9 = .ok (.getfield 28, 3) := dk_180 0 28 (dk_at dksX4_plain_0 9 rfl rfl)
theorem dX4_plain_12 : decode cX4_plain 12 = .ok (.iload_n 1, 1) := dk_27 (dk_at dksX4_plain_0 12 rfl rfl)
theorem dX4_plain_13 : decode cX4_plain 13 = .ok (.iconst 0, 1) := dk_3 (dk_at dksX4_plain_0 13 rfl rfl)
theorem dX4_plain_14 : decode cX4_plain 14 = .ok (.iastore, 1) := dk_79 (dk_at dksX4_plain_0 14 rfl rfl)
theorem dX4_plain_15 : decode cX4_plain 15 = .ok (.iinc 1 1, 3) := dk_132 1 1 (dk_at dksX4_plain_0 15 rfl rfl)
theorem dX4_plain_18 : decode cX4_plain 18 = .ok (.goto (-16), 3) := dk_167 255 240 (dk_at dksX4_plain_0 18 rfl rfl)
theorem dX4_plain_21 : decode cX4_plain 21 = .ok (.aload_n 0, 1) := dk_42 (dk_at dksX4_plain_0 21 rfl rfl)
theorem dX4_plain_22 : decode cX4_plain 22 = .ok (.iconst (-1), 1) := dk_2 (dk_at dksX4_plain_0 22 rfl rfl)
theorem dX4_plain_23 : decode cX4_plain 23 = .ok (.putfield 31, 3) := dk_181 0 31 (dk_at dksX4_plain_1 0 rfl rfl)
theorem dX4_plain_26 : decode cX4_plain 26 = .ok (.aload_n 0, 1) := dk_42 (dk_at dksX4_plain_1 3 rfl rfl)
theorem dX4_plain_27 : decode cX4_plain 27 = .ok (.sipush 360, 3) := dk_17 1 104 (dk_at dksX4_plain_1 4 rfl rfl)
theorem dX4_plain_30 : decode cX4_plain 30 = .ok (.putfield 35, 3) := dk_181 0 35 (dk_at dksX4_plain_1 7 rfl rfl)
theorem dX4_plain_33 : decode cX4_plain 33 = .ok (.aload_n 0, 1) := dk_42 (dk_at dksX4_plain_1 10 rfl rfl)
theorem dX4_plain_34 : decode cX4_plain 34 = .ok (.iconst 0, 1) := dk_3 (dk_at dksX4_plain_1 11 rfl rfl)
theorem dX4_plain_35 : decode cX4_plain 35 = .ok (.putfield 159, 3) := dk_181 0 159 (dk_at dksX4_plain_1 12 rfl rfl)
theorem dX4_plain_38 : decode cX4_plain 38 = .ok (.aload_n 0, 1) := dk_42 (dk_at dksX4_plain_1 15 rfl rfl)
theorem dX4_plain_39 : decode cX4_plain 39 = .ok (.iconst (-1), 1) := dk_2 (dk_at dksX4_plain_1 16 rfl rfl)
theorem dX4_plain_40 : decode cX4_plain 40 = .ok (.putfield 38, 3) := dk_181 0 38 (dk_at dksX4_plain_1 17 rfl rfl)
theorem dX4_plain_43 : decode cX4_plain 43 = .ok (.aload_n 0, 1) := dk_42 (dk_at dksX4_plain_1 20 rfl rfl)
theorem dX4_plain_44 : decode cX4_plain 44 = .ok (.iconst 0, 1) := dk_3 (dk_at dksX4_plain_1 21 rfl rfl)
theorem dX4_plain_45 : decode cX4_plain 45 = .ok (.putfield 162, 3) := dk_181 0 162 (dk_at dksX4_plain_2 0 rfl rfl)
theorem dX4_plain_48 : decode cX4_plain 48 = .ok (.aload_n 0, 1) := dk_42 (dk_at dksX4_plain_2 3 rfl rfl)
theorem dX4_plain_49 : decode cX4_plain 49 = .ok (.bipush 100, 2) := dk_16 100 (dk_at dksX4_plain_2 4 rfl rfl)
theorem dX4_plain_51 : decode cX4_plain 51 = .ok (.putfield 41, 3) := dk_181 0 41 (dk_at dksX4_plain_2 6 rfl rfl)
theorem dX4_plain_54 : decode cX4_plain 54 = .ok (.aload_n 0, 1) := dk_42 (dk_at dksX4_plain_2 9 rfl rfl)
theorem dX4_plain_55 : decode cX4_plain 55 = .ok (.iconst 0, 1) := dk_3 (dk_at dksX4_plain_2 10 rfl rfl)
theorem dX4_plain_56 : decode cX4_plain 56 = .ok (.putfield 165, 3) := dk_181 0 165 (dk_at dksX4_plain_2 11 rfl rfl)
theorem dX4_plain_59 : decode cX4_plain 59 = .ok (.return_, 1) := dk_177 (dk_at dksX4_plain_2 14 rfl rfl)
def dkwX4_least_0 : List UInt8 := [42, 182, 0, 215, 42, 182, 0, 218, 177]
abbrev dktX4_least_0 : List UInt8 := dkwX4_least_0 ++ []
theorem dksX4_least_0 : cX4_least.data.toList.drop 0 = dktX4_least_0 := by decide +kernel
theorem dX4_least_0 : decode cX4_least 0 = .ok (.aload_n 0, 1) := dk_42 (dk_at dksX4_least_0 0 rfl rfl)
theorem dX4_least_1 : decode cX4_least 1 = .ok (.invokevirtual 215, 3) := dk_182 0 215 (dk_at dksX4_least_0 1 rfl rfl)
theorem dX4_least_4 : decode cX4_least 4 = .ok (.aload_n 0, 1) := dk_42 (dk_at dksX4_least_0 4 rfl rfl)
theorem dX4_least_5 : decode cX4_least 5 = .ok (.invokevirtual 218, 3) := dk_182 0 218 (dk_at dksX4_least_0 5 rfl rfl)
theorem dX4_least_8 : decode cX4_least 8 = .ok (.return_, 1) := dk_177 (dk_at dksX4_least_0 8 rfl rfl)
def dkwX4_calm_1 : List UInt8 := [180, 0, 165, 181, 0, 184, 177]
abbrev dktX4_calm_1 : List UInt8 := dkwX4_calm_1 ++ []
def dkwX4_calm_0 : List UInt8 := [3, 60, 27, 7, 162, 0, 16, 42, 180, 0, 22, 27, 3, 79, 132, 1, 1, 167, 255, 241, 42, 42]
abbrev dktX4_calm_0 : List UInt8 := dkwX4_calm_0 ++ dktX4_calm_1
theorem dksX4_calm_0 : cX4_calm.data.toList.drop 0 = dktX4_calm_0 := by decide +kernel
theorem dksX4_calm_1 : cX4_calm.data.toList.drop 22 = dktX4_calm_1 := dk_seg dksX4_calm_0 22 rfl rfl
theorem dX4_calm_0 : decode cX4_calm 0 = .ok (.iconst 0, 1) := dk_3 (dk_at dksX4_calm_0 0 rfl rfl)
theorem dX4_calm_1 : decode cX4_calm 1 = .ok (.istore_n 1, 1) := dk_60 (dk_at dksX4_calm_0 1 rfl rfl)
theorem dX4_calm_2 : decode cX4_calm 2 = .ok (.iload_n 1, 1) := dk_27 (dk_at dksX4_calm_0 2 rfl rfl)
theorem dX4_calm_3 : decode cX4_calm 3 = .ok (.iconst 4, 1) := dk_7 (dk_at dksX4_calm_0 3 rfl rfl)
theorem dX4_calm_4 : decode cX4_calm 4 = .ok (.if_icmp .ge 16, 3) := dk_162 0 16 (dk_at dksX4_calm_0 4 rfl rfl)
theorem dX4_calm_7 : decode cX4_calm 7 = .ok (.aload_n 0, 1) := dk_42 (dk_at dksX4_calm_0 7 rfl rfl)
theorem dX4_calm_8 : decode cX4_calm 8 = .ok (.getfield 22, 3) := dk_180 0 22 (dk_at dksX4_calm_0 8 rfl rfl)
theorem dX4_calm_11 : decode cX4_calm 11 = .ok (.iload_n 1, 1) := dk_27 (dk_at dksX4_calm_0 11 rfl rfl)
theorem dX4_calm_12 : decode cX4_calm 12 = .ok (.iconst 0, 1) := dk_3 (dk_at dksX4_calm_0 12 rfl rfl)
theorem dX4_calm_13 : decode cX4_calm 13 = .ok (.iastore, 1) := dk_79 (dk_at dksX4_calm_0 13 rfl rfl)
theorem dX4_calm_14 : decode cX4_calm 14 = .ok (.iinc 1 1, 3) := dk_132 1 1 (dk_at dksX4_calm_0 14 rfl rfl)
theorem dX4_calm_17 : decode cX4_calm 17 = .ok (.goto (-15), 3) := dk_167 255 241 (dk_at dksX4_calm_0 17 rfl rfl)
theorem dX4_calm_20 : decode cX4_calm 20 = .ok (.aload_n 0, 1) := dk_42 (dk_at dksX4_calm_0 20 rfl rfl)
theorem dX4_calm_21 : decode cX4_calm 21 = .ok (.aload_n 0, 1) := dk_42 (dk_at dksX4_calm_0 21 rfl rfl)
theorem dX4_calm_22 : decode cX4_calm 22 = .ok (.getfield 165, 3) := dk_180 0 165 (dk_at dksX4_calm_1 0 rfl rfl)
theorem dX4_calm_25 : decode cX4_calm 25 = .ok (.putfield 184, 3) := dk_181 0 184 (dk_at dksX4_calm_1 3 rfl rfl)
theorem dX4_calm_28 : decode cX4_calm 28 = .ok (.return_, 1) := dk_177 (dk_at dksX4_calm_1 6 rfl rfl)
def dkwX4_settles_1 : List UInt8 := [167, 255, 239, 177]
abbrev dktX4_settles_1 : List UInt8 := dkwX4_settles_1 ++ []
def dkwX4_settles_0 : List UInt8 := [42, 3, 181, 0, 208, 42, 182, 0, 211, 153, 0, 16, 42, 89, 180, 0, 208, 4, 96, 181, 0, 208]
abbrev dktX4_settles_0 : List UInt8 := dkwX4_settles_0 ++ dktX4_settles_1
theorem dksX4_settles_0 : cX4_settles.data.toList.drop 0 = dktX4_settles_0 := by decide +kernel
theorem dksX4_settles_1 : cX4_settles.data.toList.drop 22 = dktX4_settles_1 := dk_seg dksX4_settles_0 22 rfl rfl
theorem dX4_settles_0 : decode cX4_settles 0 = .ok (.aload_n 0, 1) := dk_42 (dk_at dksX4_settles_0 0 rfl rfl)
theorem dX4_settles_1 : decode cX4_settles 1 = .ok (.iconst 0, 1) := dk_3 (dk_at dksX4_settles_0 1 rfl rfl)
theorem dX4_settles_2 : decode cX4_settles 2 = .ok (.putfield 208, 3) := dk_181 0 208 (dk_at dksX4_settles_0 2 rfl rfl)
theorem dX4_settles_5 : decode cX4_settles 5 = .ok (.aload_n 0, 1) := dk_42 (dk_at dksX4_settles_0 5 rfl rfl)
theorem dX4_settles_6 : decode cX4_settles 6 = .ok (.invokevirtual 211, 3) := dk_182 0 211 (dk_at dksX4_settles_0 6 rfl rfl)
theorem dX4_settles_9 : decode cX4_settles 9 = .ok (.ifCond .eq 16, 3) := dk_153 0 16 (dk_at dksX4_settles_0 9 rfl rfl)
theorem dX4_settles_12 : decode cX4_settles 12 = .ok (.aload_n 0, 1) := dk_42 (dk_at dksX4_settles_0 12 rfl rfl)
theorem dX4_settles_13 : decode cX4_settles 13 = .ok (.dup, 1) := dk_89 (dk_at dksX4_settles_0 13 rfl rfl)
theorem dX4_settles_14 : decode cX4_settles 14 = .ok (.getfield 208, 3) := dk_180 0 208 (dk_at dksX4_settles_0 14 rfl rfl)
theorem dX4_settles_17 : decode cX4_settles 17 = .ok (.iconst 1, 1) := dk_4 (dk_at dksX4_settles_0 17 rfl rfl)
theorem dX4_settles_18 : decode cX4_settles 18 = .ok (.iadd, 1) := dk_96 (dk_at dksX4_settles_0 18 rfl rfl)
theorem dX4_settles_19 : decode cX4_settles 19 = .ok (.putfield 208, 3) := dk_181 0 208 (dk_at dksX4_settles_0 19 rfl rfl)
theorem dX4_settles_22 : decode cX4_settles 22 = .ok (.goto (-17), 3) := dk_167 255 239 (dk_at dksX4_settles_1 0 rfl rfl)
theorem dX4_settles_25 : decode cX4_settles 25 = .ok (.return_, 1) := dk_177 (dk_at dksX4_settles_1 3 rfl rfl)
def dkwX4_goesOn_10 : List UInt8 := [181, 0, 184, 27, 172]
abbrev dktX4_goesOn_10 : List UInt8 := dkwX4_goesOn_10 ++ []
def dkwX4_goesOn_9 : List UInt8 := [42, 180, 0, 22, 28, 42, 180, 0, 25, 28, 46, 79, 132, 2, 1, 167, 255, 236, 42, 42, 180, 0, 193]
abbrev dktX4_goesOn_9 : List UInt8 := dkwX4_goesOn_9 ++ dktX4_goesOn_10
def dkwX4_goesOn_8 : List UInt8 := [28, 46, 159, 0, 7, 4, 167, 0, 4, 3, 60, 132, 2, 1, 167, 255, 184, 3, 61, 28, 7, 162, 0, 21]
abbrev dktX4_goesOn_8 : List UInt8 := dkwX4_goesOn_8 ++ dktX4_goesOn_9
def dkwX4_goesOn_7 : List UInt8 := [46, 167, 0, 8, 42, 28, 182, 0, 202, 79, 27, 154, 0, 18, 42, 180, 0, 25, 28, 46, 42, 180, 0, 22]
abbrev dktX4_goesOn_7 : List UInt8 := dkwX4_goesOn_7 ++ dktX4_goesOn_8
def dkwX4_goesOn_6 : List UInt8 := [42, 180, 0, 25, 28, 42, 180, 0, 25, 28, 46, 42, 28, 182, 0, 202, 162, 0, 12, 42, 180, 0, 25, 28]
abbrev dktX4_goesOn_6 : List UInt8 := dkwX4_goesOn_6 ++ dktX4_goesOn_7
def dkwX4_goesOn_5 : List UInt8 := [180, 0, 184, 159, 0, 7, 4, 167, 0, 4, 3, 60, 3, 61, 28, 42, 180, 0, 7, 3, 46, 162, 0, 68]
abbrev dktX4_goesOn_5 : List UInt8 := dkwX4_goesOn_5 ++ dktX4_goesOn_6
def dkwX4_goesOn_4 : List UInt8 := [182, 0, 199, 96, 79, 132, 3, 1, 167, 255, 227, 132, 1, 1, 167, 255, 179, 42, 180, 0, 193, 42]
abbrev dktX4_goesOn_4 : List UInt8 := dkwX4_goesOn_4 ++ dktX4_goesOn_5
def dkwX4_goesOn_3 : List UInt8 := [3, 62, 29, 42, 180, 0, 7, 3, 46, 162, 0, 25, 42, 180, 0, 25, 29, 92, 46, 42, 27, 29, 28]
abbrev dktX4_goesOn_3 : List UInt8 := dkwX4_goesOn_3 ++ dktX4_goesOn_4
def dkwX4_goesOn_2 : List UInt8 := [27, 182, 0, 187, 156, 0, 9, 4, 27, 120, 167, 0, 4, 3, 128, 181, 0, 193, 42, 27, 182, 0, 196, 61]
abbrev dktX4_goesOn_2 : List UInt8 := dkwX4_goesOn_2 ++ dktX4_goesOn_3
def dkwX4_goesOn_1 : List UInt8 := [132, 1, 1, 167, 255, 241, 3, 60, 27, 42, 180, 0, 7, 4, 46, 162, 0, 73, 42, 89, 180, 0, 193, 42]
abbrev dktX4_goesOn_1 : List UInt8 := dkwX4_goesOn_1 ++ dktX4_goesOn_2
def dkwX4_goesOn_0 : List UInt8 := [42, 42, 180, 0, 165, 181, 0, 193, 3, 60, 27, 7, 162, 0, 16, 42, 180, 0, 25, 27, 3, 79]
abbrev dktX4_goesOn_0 : List UInt8 := dkwX4_goesOn_0 ++ dktX4_goesOn_1
theorem dksX4_goesOn_0 : cX4_goesOn.data.toList.drop 0 = dktX4_goesOn_0 := by decide +kernel
theorem dksX4_goesOn_1 : cX4_goesOn.data.toList.drop 22 = dktX4_goesOn_1 := dk_seg dksX4_goesOn_0 22 rfl rfl
theorem dksX4_goesOn_2 : cX4_goesOn.data.toList.drop 46 = dktX4_goesOn_2 := dk_seg dksX4_goesOn_1 24 rfl rfl
theorem dksX4_goesOn_3 : cX4_goesOn.data.toList.drop 70 = dktX4_goesOn_3 := dk_seg dksX4_goesOn_2 24 rfl rfl
theorem dksX4_goesOn_4 : cX4_goesOn.data.toList.drop 93 = dktX4_goesOn_4 := dk_seg dksX4_goesOn_3 23 rfl rfl
theorem dksX4_goesOn_5 : cX4_goesOn.data.toList.drop 115 = dktX4_goesOn_5 := dk_seg dksX4_goesOn_4 22 rfl rfl
theorem dksX4_goesOn_6 : cX4_goesOn.data.toList.drop 139 = dktX4_goesOn_6 := dk_seg dksX4_goesOn_5 24 rfl rfl
theorem dksX4_goesOn_7 : cX4_goesOn.data.toList.drop 163 = dktX4_goesOn_7 := dk_seg dksX4_goesOn_6 24 rfl rfl
theorem dksX4_goesOn_8 : cX4_goesOn.data.toList.drop 187 = dktX4_goesOn_8 := dk_seg dksX4_goesOn_7 24 rfl rfl
theorem dksX4_goesOn_9 : cX4_goesOn.data.toList.drop 211 = dktX4_goesOn_9 := dk_seg dksX4_goesOn_8 24 rfl rfl
theorem dksX4_goesOn_10 : cX4_goesOn.data.toList.drop 234 = dktX4_goesOn_10 := dk_seg dksX4_goesOn_9 23 rfl rfl
theorem dX4_goesOn_0 : decode cX4_goesOn 0 = .ok (.aload_n 0, 1) := dk_42 (dk_at dksX4_goesOn_0 0 rfl rfl)
theorem dX4_goesOn_1 : decode cX4_goesOn 1 = .ok (.aload_n 0, 1) := dk_42 (dk_at dksX4_goesOn_0 1 rfl rfl)
theorem dX4_goesOn_2 : decode cX4_goesOn 2 = .ok (.getfield 165, 3) := dk_180 0 165 (dk_at dksX4_goesOn_0 2 rfl rfl)
theorem dX4_goesOn_5 : decode cX4_goesOn 5 = .ok (.putfield 193, 3) := dk_181 0 193 (dk_at dksX4_goesOn_0 5 rfl rfl)
theorem dX4_goesOn_8 : decode cX4_goesOn 8 = .ok (.iconst 0, 1) := dk_3 (dk_at dksX4_goesOn_0 8 rfl rfl)
theorem dX4_goesOn_9 : decode cX4_goesOn 9 = .ok (.istore_n 1, 1) := dk_60 (dk_at dksX4_goesOn_0 9 rfl rfl)
theorem dX4_goesOn_10 : decode cX4_goesOn 10 = .ok (.iload_n 1, 1) := dk_27 (dk_at dksX4_goesOn_0 10 rfl rfl)
theorem dX4_goesOn_11 : decode cX4_goesOn 11 = .ok (.iconst 4, 1) := dk_7 (dk_at dksX4_goesOn_0 11 rfl rfl)
theorem dX4_goesOn_12 : decode cX4_goesOn 12 = .ok (.if_icmp .ge 16, 3) := dk_162 0 16 (dk_at dksX4_goesOn_0 12 rfl rfl)
theorem dX4_goesOn_15 : decode cX4_goesOn 15 = .ok (.aload_n 0, 1) := dk_42 (dk_at dksX4_goesOn_0 15 rfl rfl)
theorem dX4_goesOn_16 : decode cX4_goesOn 16 = .ok (.getfield 25, 3) := dk_180 0 25 (dk_at dksX4_goesOn_0 16 rfl rfl)
theorem dX4_goesOn_19 : decode cX4_goesOn 19 = .ok (.iload_n 1, 1) := dk_27 (dk_at dksX4_goesOn_0 19 rfl rfl)
theorem dX4_goesOn_20 : decode cX4_goesOn 20 = .ok (.iconst 0, 1) := dk_3 (dk_at dksX4_goesOn_0 20 rfl rfl)
theorem dX4_goesOn_21 : decode cX4_goesOn 21 = .ok (.iastore, 1) := dk_79 (dk_at dksX4_goesOn_0 21 rfl rfl)
theorem dX4_goesOn_22 : decode cX4_goesOn 22 = .ok (.iinc 1 1, 3) := dk_132 1 1 (dk_at dksX4_goesOn_1 0 rfl rfl)
theorem dX4_goesOn_25 : decode cX4_goesOn 25 = .ok (.goto (-15), 3) := dk_167 255 241 (dk_at dksX4_goesOn_1 3 rfl rfl)
theorem dX4_goesOn_28 : decode cX4_goesOn 28 = .ok (.iconst 0, 1) := dk_3 (dk_at dksX4_goesOn_1 6 rfl rfl)
theorem dX4_goesOn_29 : decode cX4_goesOn 29 = .ok (.istore_n 1, 1) := dk_60 (dk_at dksX4_goesOn_1 7 rfl rfl)
theorem dX4_goesOn_30 : decode cX4_goesOn 30 = .ok (.iload_n 1, 1) := dk_27 (dk_at dksX4_goesOn_1 8 rfl rfl)
theorem dX4_goesOn_31 : decode cX4_goesOn 31 = .ok (.aload_n 0, 1) := dk_42 (dk_at dksX4_goesOn_1 9 rfl rfl)
theorem dX4_goesOn_32 : decode cX4_goesOn 32 = .ok (.getfield 7, 3) := dk_180 0 7 (dk_at dksX4_goesOn_1 10 rfl rfl)
theorem dX4_goesOn_35 : decode cX4_goesOn 35 = .ok (.iconst 1, 1) := dk_4 (dk_at dksX4_goesOn_1 13 rfl rfl)
theorem dX4_goesOn_36 : decode cX4_goesOn 36 = .ok (.iaload, 1) := dk_46 (dk_at dksX4_goesOn_1 14 rfl rfl)
theorem dX4_goesOn_37 : decode cX4_goesOn 37 = .ok (.if_icmp .ge 73, 3) := dk_162 0 73 (dk_at dksX4_goesOn_1 15 rfl rfl)
theorem dX4_goesOn_40 : decode cX4_goesOn 40 = .ok (.aload_n 0, 1) := dk_42 (dk_at dksX4_goesOn_1 18 rfl rfl)
theorem dX4_goesOn_41 : decode cX4_goesOn 41 = .ok (.dup, 1) := dk_89 (dk_at dksX4_goesOn_1 19 rfl rfl)
theorem dX4_goesOn_42 : decode cX4_goesOn 42 = .ok (.getfield 193, 3) := dk_180 0 193 (dk_at dksX4_goesOn_1 20 rfl rfl)
theorem dX4_goesOn_45 : decode cX4_goesOn 45 = .ok (.aload_n 0, 1) := dk_42 (dk_at dksX4_goesOn_1 23 rfl rfl)
theorem dX4_goesOn_46 : decode cX4_goesOn 46 = .ok (.iload_n 1, 1) := dk_27 (dk_at dksX4_goesOn_2 0 rfl rfl)
theorem dX4_goesOn_47 : decode cX4_goesOn 47 = .ok (.invokevirtual 187, 3) := dk_182 0 187 (dk_at dksX4_goesOn_2 1 rfl rfl)
theorem dX4_goesOn_50 : decode cX4_goesOn 50 = .ok (.ifCond .ge 9, 3) := dk_156 0 9 (dk_at dksX4_goesOn_2 4 rfl rfl)
theorem dX4_goesOn_53 : decode cX4_goesOn 53 = .ok (.iconst 1, 1) := dk_4 (dk_at dksX4_goesOn_2 7 rfl rfl)
theorem dX4_goesOn_54 : decode cX4_goesOn 54 = .ok (.iload_n 1, 1) := dk_27 (dk_at dksX4_goesOn_2 8 rfl rfl)
theorem dX4_goesOn_55 : decode cX4_goesOn 55 = .ok (.ishl, 1) := dk_120 (dk_at dksX4_goesOn_2 9 rfl rfl)
theorem dX4_goesOn_56 : decode cX4_goesOn 56 = .ok (.goto 4, 3) := dk_167 0 4 (dk_at dksX4_goesOn_2 10 rfl rfl)
theorem dX4_goesOn_59 : decode cX4_goesOn 59 = .ok (.iconst 0, 1) := dk_3 (dk_at dksX4_goesOn_2 13 rfl rfl)
theorem dX4_goesOn_60 : decode cX4_goesOn 60 = .ok (.ior, 1) := dk_128 (dk_at dksX4_goesOn_2 14 rfl rfl)
theorem dX4_goesOn_61 : decode cX4_goesOn 61 = .ok (.putfield 193, 3) := dk_181 0 193 (dk_at dksX4_goesOn_2 15 rfl rfl)
theorem dX4_goesOn_64 : decode cX4_goesOn 64 = .ok (.aload_n 0, 1) := dk_42 (dk_at dksX4_goesOn_2 18 rfl rfl)
theorem dX4_goesOn_65 : decode cX4_goesOn 65 = .ok (.iload_n 1, 1) := dk_27 (dk_at dksX4_goesOn_2 19 rfl rfl)
theorem dX4_goesOn_66 : decode cX4_goesOn 66 = .ok (.invokevirtual 196, 3) := dk_182 0 196 (dk_at dksX4_goesOn_2 20 rfl rfl)
theorem dX4_goesOn_69 : decode cX4_goesOn 69 = .ok (.istore_n 2, 1) := dk_61 (dk_at dksX4_goesOn_2 23 rfl rfl)
theorem dX4_goesOn_70 : decode cX4_goesOn 70 = .ok (.iconst 0, 1) := dk_3 (dk_at dksX4_goesOn_3 0 rfl rfl)
theorem dX4_goesOn_71 : decode cX4_goesOn 71 = .ok (.istore_n 3, 1) := dk_62 (dk_at dksX4_goesOn_3 1 rfl rfl)
theorem dX4_goesOn_72 : decode cX4_goesOn 72 = .ok (.iload_n 3, 1) := dk_29 (dk_at dksX4_goesOn_3 2 rfl rfl)
theorem dX4_goesOn_73 : decode cX4_goesOn 73 = .ok (.aload_n 0, 1) := dk_42 (dk_at dksX4_goesOn_3 3 rfl rfl)
theorem dX4_goesOn_74 : decode cX4_goesOn 74 = .ok (.getfield 7, 3) := dk_180 0 7 (dk_at dksX4_goesOn_3 4 rfl rfl)
theorem dX4_goesOn_77 : decode cX4_goesOn 77 = .ok (.iconst 0, 1) := dk_3 (dk_at dksX4_goesOn_3 7 rfl rfl)
theorem dX4_goesOn_78 : decode cX4_goesOn 78 = .ok (.iaload, 1) := dk_46 (dk_at dksX4_goesOn_3 8 rfl rfl)
theorem dX4_goesOn_79 : decode cX4_goesOn 79 = .ok (.if_icmp .ge 25, 3) := dk_162 0 25 (dk_at dksX4_goesOn_3 9 rfl rfl)
theorem dX4_goesOn_82 : decode cX4_goesOn 82 = .ok (.aload_n 0, 1) := dk_42 (dk_at dksX4_goesOn_3 12 rfl rfl)
theorem dX4_goesOn_83 : decode cX4_goesOn 83 = .ok (.getfield 25, 3) := dk_180 0 25 (dk_at dksX4_goesOn_3 13 rfl rfl)
theorem dX4_goesOn_86 : decode cX4_goesOn 86 = .ok (.iload_n 3, 1) := dk_29 (dk_at dksX4_goesOn_3 16 rfl rfl)
theorem dX4_goesOn_87 : decode cX4_goesOn 87 = .ok (.dup2, 1) := dk_92 (dk_at dksX4_goesOn_3 17 rfl rfl)
theorem dX4_goesOn_88 : decode cX4_goesOn 88 = .ok (.iaload, 1) := dk_46 (dk_at dksX4_goesOn_3 18 rfl rfl)
theorem dX4_goesOn_89 : decode cX4_goesOn 89 = .ok (.aload_n 0, 1) := dk_42 (dk_at dksX4_goesOn_3 19 rfl rfl)
theorem dX4_goesOn_90 : decode cX4_goesOn 90 = .ok (.iload_n 1, 1) := dk_27 (dk_at dksX4_goesOn_3 20 rfl rfl)
theorem dX4_goesOn_91 : decode cX4_goesOn 91 = .ok (.iload_n 3, 1) := dk_29 (dk_at dksX4_goesOn_3 21 rfl rfl)
theorem dX4_goesOn_92 : decode cX4_goesOn 92 = .ok (.iload_n 2, 1) := dk_28 (dk_at dksX4_goesOn_3 22 rfl rfl)
theorem dX4_goesOn_93 : decode cX4_goesOn 93 = .ok (.invokevirtual 199, 3) := dk_182 0 199 (dk_at dksX4_goesOn_4 0 rfl rfl)
theorem dX4_goesOn_96 : decode cX4_goesOn 96 = .ok (.iadd, 1) := dk_96 (dk_at dksX4_goesOn_4 3 rfl rfl)
theorem dX4_goesOn_97 : decode cX4_goesOn 97 = .ok (.iastore, 1) := dk_79 (dk_at dksX4_goesOn_4 4 rfl rfl)
theorem dX4_goesOn_98 : decode cX4_goesOn 98 = .ok (.iinc 3 1, 3) := dk_132 3 1 (dk_at dksX4_goesOn_4 5 rfl rfl)
theorem dX4_goesOn_101 : decode cX4_goesOn 101 = .ok (.goto (-29), 3) := dk_167 255 227 (dk_at dksX4_goesOn_4 8 rfl rfl)
theorem dX4_goesOn_104 : decode cX4_goesOn 104 = .ok (.iinc 1 1, 3) := dk_132 1 1 (dk_at dksX4_goesOn_4 11 rfl rfl)
theorem dX4_goesOn_107 : decode cX4_goesOn 107 = .ok (.goto (-77), 3) := dk_167 255 179 (dk_at dksX4_goesOn_4 14 rfl rfl)
theorem dX4_goesOn_110 : decode cX4_goesOn 110 = .ok (.aload_n 0, 1) := dk_42 (dk_at dksX4_goesOn_4 17 rfl rfl)
theorem dX4_goesOn_111 : decode cX4_goesOn 111 = .ok (.getfield 193, 3) := dk_180 0 193 (dk_at dksX4_goesOn_4 18 rfl rfl)
theorem dX4_goesOn_114 : decode cX4_goesOn 114 = .ok (.aload_n 0, 1) := dk_42 (dk_at dksX4_goesOn_4 21 rfl rfl)
theorem dX4_goesOn_115 : decode cX4_goesOn 115 = .ok (.getfield 184, 3) := dk_180 0 184 (dk_at dksX4_goesOn_5 0 rfl rfl)
theorem dX4_goesOn_118 : decode cX4_goesOn 118 = .ok (.if_icmp .eq 7, 3) := dk_159 0 7 (dk_at dksX4_goesOn_5 3 rfl rfl)
theorem dX4_goesOn_121 : decode cX4_goesOn 121 = .ok (.iconst 1, 1) := dk_4 (dk_at dksX4_goesOn_5 6 rfl rfl)
theorem dX4_goesOn_122 : decode cX4_goesOn 122 = .ok (.goto 4, 3) := dk_167 0 4 (dk_at dksX4_goesOn_5 7 rfl rfl)
theorem dX4_goesOn_125 : decode cX4_goesOn 125 = .ok (.iconst 0, 1) := dk_3 (dk_at dksX4_goesOn_5 10 rfl rfl)
theorem dX4_goesOn_126 : decode cX4_goesOn 126 = .ok (.istore_n 1, 1) := dk_60 (dk_at dksX4_goesOn_5 11 rfl rfl)
theorem dX4_goesOn_127 : decode cX4_goesOn 127 = .ok (.iconst 0, 1) := dk_3 (dk_at dksX4_goesOn_5 12 rfl rfl)
theorem dX4_goesOn_128 : decode cX4_goesOn 128 = .ok (.istore_n 2, 1) := dk_61 (dk_at dksX4_goesOn_5 13 rfl rfl)
theorem dX4_goesOn_129 : decode cX4_goesOn 129 = .ok (.iload_n 2, 1) := dk_28 (dk_at dksX4_goesOn_5 14 rfl rfl)
theorem dX4_goesOn_130 : decode cX4_goesOn 130 = .ok (.aload_n 0, 1) := dk_42 (dk_at dksX4_goesOn_5 15 rfl rfl)
theorem dX4_goesOn_131 : decode cX4_goesOn 131 = .ok (.getfield 7, 3) := dk_180 0 7 (dk_at dksX4_goesOn_5 16 rfl rfl)
theorem dX4_goesOn_134 : decode cX4_goesOn 134 = .ok (.iconst 0, 1) := dk_3 (dk_at dksX4_goesOn_5 19 rfl rfl)
theorem dX4_goesOn_135 : decode cX4_goesOn 135 = .ok (.iaload, 1) := dk_46 (dk_at dksX4_goesOn_5 20 rfl rfl)
theorem dX4_goesOn_136 : decode cX4_goesOn 136 = .ok (.if_icmp .ge 68, 3) := dk_162 0 68 (dk_at dksX4_goesOn_5 21 rfl rfl)
theorem dX4_goesOn_139 : decode cX4_goesOn 139 = .ok (.aload_n 0, 1) := dk_42 (dk_at dksX4_goesOn_6 0 rfl rfl)
theorem dX4_goesOn_140 : decode cX4_goesOn 140 = .ok (.getfield 25, 3) := dk_180 0 25 (dk_at dksX4_goesOn_6 1 rfl rfl)
theorem dX4_goesOn_143 : decode cX4_goesOn 143 = .ok (.iload_n 2, 1) := dk_28 (dk_at dksX4_goesOn_6 4 rfl rfl)
theorem dX4_goesOn_144 : decode cX4_goesOn 144 = .ok (.aload_n 0, 1) := dk_42 (dk_at dksX4_goesOn_6 5 rfl rfl)
theorem dX4_goesOn_145 : decode cX4_goesOn 145 = .ok (.getfield 25, 3) := dk_180 0 25 (dk_at dksX4_goesOn_6 6 rfl rfl)
theorem dX4_goesOn_148 : decode cX4_goesOn 148 = .ok (.iload_n 2, 1) := dk_28 (dk_at dksX4_goesOn_6 9 rfl rfl)
theorem dX4_goesOn_149 : decode cX4_goesOn 149 = .ok (.iaload, 1) := dk_46 (dk_at dksX4_goesOn_6 10 rfl rfl)
theorem dX4_goesOn_150 : decode cX4_goesOn 150 = .ok (.aload_n 0, 1) := dk_42 (dk_at dksX4_goesOn_6 11 rfl rfl)
theorem dX4_goesOn_151 : decode cX4_goesOn 151 = .ok (.iload_n 2, 1) := dk_28 (dk_at dksX4_goesOn_6 12 rfl rfl)
theorem dX4_goesOn_152 : decode cX4_goesOn 152 = .ok (.invokevirtual 202, 3) := dk_182 0 202 (dk_at dksX4_goesOn_6 13 rfl rfl)
theorem dX4_goesOn_155 : decode cX4_goesOn 155 = .ok (.if_icmp .ge 12, 3) := dk_162 0 12 (dk_at dksX4_goesOn_6 16 rfl rfl)
theorem dX4_goesOn_158 : decode cX4_goesOn 158 = .ok (.aload_n 0, 1) := dk_42 (dk_at dksX4_goesOn_6 19 rfl rfl)
theorem dX4_goesOn_159 : decode cX4_goesOn 159 = .ok (.getfield 25, 3) := dk_180 0 25 (dk_at dksX4_goesOn_6 20 rfl rfl)
theorem dX4_goesOn_162 : decode cX4_goesOn 162 = .ok (.iload_n 2, 1) := dk_28 (dk_at dksX4_goesOn_6 23 rfl rfl)
theorem dX4_goesOn_163 : decode cX4_goesOn 163 = .ok (.iaload, 1) := dk_46 (dk_at dksX4_goesOn_7 0 rfl rfl)
theorem dX4_goesOn_164 : decode cX4_goesOn 164 = .ok (.goto 8, 3) := dk_167 0 8 (dk_at dksX4_goesOn_7 1 rfl rfl)
theorem dX4_goesOn_167 : decode cX4_goesOn 167 = .ok (.aload_n 0, 1) := dk_42 (dk_at dksX4_goesOn_7 4 rfl rfl)
theorem dX4_goesOn_168 : decode cX4_goesOn 168 = .ok (.iload_n 2, 1) := dk_28 (dk_at dksX4_goesOn_7 5 rfl rfl)
theorem dX4_goesOn_169 : decode cX4_goesOn 169 = .ok (.invokevirtual 202, 3) := dk_182 0 202 (dk_at dksX4_goesOn_7 6 rfl rfl)
theorem dX4_goesOn_172 : decode cX4_goesOn 172 = .ok (.iastore, 1) := dk_79 (dk_at dksX4_goesOn_7 9 rfl rfl)
theorem dX4_goesOn_173 : decode cX4_goesOn 173 = .ok (.iload_n 1, 1) := dk_27 (dk_at dksX4_goesOn_7 10 rfl rfl)
theorem dX4_goesOn_174 : decode cX4_goesOn 174 = .ok (.ifCond .ne 18, 3) := dk_154 0 18 (dk_at dksX4_goesOn_7 11 rfl rfl)
theorem dX4_goesOn_177 : decode cX4_goesOn 177 = .ok (.aload_n 0, 1) := dk_42 (dk_at dksX4_goesOn_7 14 rfl rfl)
theorem dX4_goesOn_178 : decode cX4_goesOn 178 = .ok (.getfield 25, 3) := dk_180 0 25 (dk_at dksX4_goesOn_7 15 rfl rfl)
theorem dX4_goesOn_181 : decode cX4_goesOn 181 = .ok (.iload_n 2, 1) := dk_28 (dk_at dksX4_goesOn_7 18 rfl rfl)
theorem dX4_goesOn_182 : decode cX4_goesOn 182 = .ok (.iaload, 1) := dk_46 (dk_at dksX4_goesOn_7 19 rfl rfl)
theorem dX4_goesOn_183 : decode cX4_goesOn 183 = .ok (.aload_n 0, 1) := dk_42 (dk_at dksX4_goesOn_7 20 rfl rfl)
theorem dX4_goesOn_184 : decode cX4_goesOn 184 = .ok (.getfield 22, 3) := dk_180 0 22 (dk_at dksX4_goesOn_7 21 rfl rfl)
theorem dX4_goesOn_187 : decode cX4_goesOn 187 = .ok (.iload_n 2, 1) := dk_28 (dk_at dksX4_goesOn_8 0 rfl rfl)
theorem dX4_goesOn_188 : decode cX4_goesOn 188 = .ok (.iaload, 1) := dk_46 (dk_at dksX4_goesOn_8 1 rfl rfl)
theorem dX4_goesOn_189 : decode cX4_goesOn 189 = .ok (.if_icmp .eq 7, 3) := dk_159 0 7 (dk_at dksX4_goesOn_8 2 rfl rfl)
theorem dX4_goesOn_192 : decode cX4_goesOn 192 = .ok (.iconst 1, 1) := dk_4 (dk_at dksX4_goesOn_8 5 rfl rfl)
theorem dX4_goesOn_193 : decode cX4_goesOn 193 = .ok (.goto 4, 3) := dk_167 0 4 (dk_at dksX4_goesOn_8 6 rfl rfl)
theorem dX4_goesOn_196 : decode cX4_goesOn 196 = .ok (.iconst 0, 1) := dk_3 (dk_at dksX4_goesOn_8 9 rfl rfl)
theorem dX4_goesOn_197 : decode cX4_goesOn 197 = .ok (.istore_n 1, 1) := dk_60 (dk_at dksX4_goesOn_8 10 rfl rfl)
theorem dX4_goesOn_198 : decode cX4_goesOn 198 = .ok (.iinc 2 1, 3) := dk_132 2 1 (dk_at dksX4_goesOn_8 11 rfl rfl)
theorem dX4_goesOn_201 : decode cX4_goesOn 201 = .ok (.goto (-72), 3) := dk_167 255 184 (dk_at dksX4_goesOn_8 14 rfl rfl)
theorem dX4_goesOn_204 : decode cX4_goesOn 204 = .ok (.iconst 0, 1) := dk_3 (dk_at dksX4_goesOn_8 17 rfl rfl)
theorem dX4_goesOn_205 : decode cX4_goesOn 205 = .ok (.istore_n 2, 1) := dk_61 (dk_at dksX4_goesOn_8 18 rfl rfl)
theorem dX4_goesOn_206 : decode cX4_goesOn 206 = .ok (.iload_n 2, 1) := dk_28 (dk_at dksX4_goesOn_8 19 rfl rfl)
theorem dX4_goesOn_207 : decode cX4_goesOn 207 = .ok (.iconst 4, 1) := dk_7 (dk_at dksX4_goesOn_8 20 rfl rfl)
theorem dX4_goesOn_208 : decode cX4_goesOn 208 = .ok (.if_icmp .ge 21, 3) := dk_162 0 21 (dk_at dksX4_goesOn_8 21 rfl rfl)
theorem dX4_goesOn_211 : decode cX4_goesOn 211 = .ok (.aload_n 0, 1) := dk_42 (dk_at dksX4_goesOn_9 0 rfl rfl)
theorem dX4_goesOn_212 : decode cX4_goesOn 212 = .ok (.getfield 22, 3) := dk_180 0 22 (dk_at dksX4_goesOn_9 1 rfl rfl)
theorem dX4_goesOn_215 : decode cX4_goesOn 215 = .ok (.iload_n 2, 1) := dk_28 (dk_at dksX4_goesOn_9 4 rfl rfl)
theorem dX4_goesOn_216 : decode cX4_goesOn 216 = .ok (.aload_n 0, 1) := dk_42 (dk_at dksX4_goesOn_9 5 rfl rfl)
theorem dX4_goesOn_217 : decode cX4_goesOn 217 = .ok (.getfield 25, 3) := dk_180 0 25 (dk_at dksX4_goesOn_9 6 rfl rfl)
theorem dX4_goesOn_220 : decode cX4_goesOn 220 = .ok (.iload_n 2, 1) := dk_28 (dk_at dksX4_goesOn_9 9 rfl rfl)
theorem dX4_goesOn_221 : decode cX4_goesOn 221 = .ok (.iaload, 1) := dk_46 (dk_at dksX4_goesOn_9 10 rfl rfl)
theorem dX4_goesOn_222 : decode cX4_goesOn 222 = .ok (.iastore, 1) := dk_79 (dk_at dksX4_goesOn_9 11 rfl rfl)
theorem dX4_goesOn_223 : decode cX4_goesOn 223 = .ok (.iinc 2 1, 3) := dk_132 2 1 (dk_at dksX4_goesOn_9 12 rfl rfl)
theorem dX4_goesOn_226 : decode cX4_goesOn 226 = .ok (.goto (-20), 3) := dk_167 255 236 (dk_at dksX4_goesOn_9 15 rfl rfl)
theorem dX4_goesOn_229 : decode cX4_goesOn 229 = .ok (.aload_n 0, 1) := dk_42 (dk_at dksX4_goesOn_9 18 rfl rfl)
theorem dX4_goesOn_230 : decode cX4_goesOn 230 = .ok (.aload_n 0, 1) := dk_42 (dk_at dksX4_goesOn_9 19 rfl rfl)
theorem dX4_goesOn_231 : decode cX4_goesOn 231 = .ok (.getfield 193, 3) := dk_180 0 193 (dk_at dksX4_goesOn_9 20 rfl rfl)
theorem dX4_goesOn_234 : decode cX4_goesOn 234 = .ok (.putfield 184, 3) := dk_181 0 184 (dk_at dksX4_goesOn_10 0 rfl rfl)
theorem dX4_goesOn_237 : decode cX4_goesOn 237 = .ok (.iload_n 1, 1) := dk_27 (dk_at dksX4_goesOn_10 3 rfl rfl)
theorem dX4_goesOn_238 : decode cX4_goesOn 238 = .ok (.ireturn, 1) := dk_172 (dk_at dksX4_goesOn_10 4 rfl rfl)
def dkwX4_worthNow_4 : List UInt8 := [182, 0, 181, 167, 0, 4, 3, 96, 61, 132, 3, 1, 167, 255, 210, 28, 172]
abbrev dktX4_worthNow_4 : List UInt8 := dkwX4_worthNow_4 ++ []
def dkwX4_worthNow_3 : List UInt8 := [28, 42, 27, 29, 182, 0, 181, 100, 61, 28, 42, 180, 0, 184, 29, 122, 4, 126, 154, 0, 12, 42, 29, 27]
abbrev dktX4_worthNow_3 : List UInt8 := dkwX4_worthNow_3 ++ dktX4_worthNow_4
def dkwX4_worthNow_2 : List UInt8 := [182, 0, 178, 104, 96, 61, 132, 3, 1, 167, 255, 222, 3, 62, 29, 42, 180, 0, 7, 4, 46, 162, 0, 42]
abbrev dktX4_worthNow_2 : List UInt8 := dkwX4_worthNow_2 ++ dktX4_worthNow_3
def dkwX4_worthNow_1 : List UInt8 := [42, 180, 0, 7, 3, 46, 162, 0, 30, 28, 42, 27, 29, 182, 0, 72, 42, 29, 42, 180, 0, 22, 29, 46]
abbrev dktX4_worthNow_1 : List UInt8 := dkwX4_worthNow_1 ++ dktX4_worthNow_2
def dkwX4_worthNow_0 : List UInt8 := [42, 27, 3, 182, 0, 175, 42, 180, 0, 28, 27, 46, 96, 42, 27, 4, 182, 0, 175, 100, 61, 3, 62, 29]
abbrev dktX4_worthNow_0 : List UInt8 := dkwX4_worthNow_0 ++ dktX4_worthNow_1
theorem dksX4_worthNow_0 : cX4_worthNow.data.toList.drop 0 = dktX4_worthNow_0 := by decide +kernel
theorem dksX4_worthNow_1 : cX4_worthNow.data.toList.drop 24 = dktX4_worthNow_1 := dk_seg dksX4_worthNow_0 24 rfl rfl
theorem dksX4_worthNow_2 : cX4_worthNow.data.toList.drop 48 = dktX4_worthNow_2 := dk_seg dksX4_worthNow_1 24 rfl rfl
theorem dksX4_worthNow_3 : cX4_worthNow.data.toList.drop 72 = dktX4_worthNow_3 := dk_seg dksX4_worthNow_2 24 rfl rfl
theorem dksX4_worthNow_4 : cX4_worthNow.data.toList.drop 96 = dktX4_worthNow_4 := dk_seg dksX4_worthNow_3 24 rfl rfl
theorem dX4_worthNow_0 : decode cX4_worthNow 0 = .ok (.aload_n 0, 1) := dk_42 (dk_at dksX4_worthNow_0 0 rfl rfl)
theorem dX4_worthNow_1 : decode cX4_worthNow 1 = .ok (.iload_n 1, 1) := dk_27 (dk_at dksX4_worthNow_0 1 rfl rfl)
theorem dX4_worthNow_2 : decode cX4_worthNow 2 = .ok (.iconst 0, 1) := dk_3 (dk_at dksX4_worthNow_0 2 rfl rfl)
theorem dX4_worthNow_3 : decode cX4_worthNow 3 = .ok (.invokevirtual 175, 3) := dk_182 0 175 (dk_at dksX4_worthNow_0 3 rfl rfl)
theorem dX4_worthNow_6 : decode cX4_worthNow 6 = .ok (.aload_n 0, 1) := dk_42 (dk_at dksX4_worthNow_0 6 rfl rfl)
theorem dX4_worthNow_7 : decode cX4_worthNow 7 = .ok (.getfield 28, 3) := dk_180 0 28 (dk_at dksX4_worthNow_0 7 rfl rfl)
theorem dX4_worthNow_10 : decode cX4_worthNow 10 = .ok (.iload_n 1, 1) := dk_27 (dk_at dksX4_worthNow_0 10 rfl rfl)
theorem dX4_worthNow_11 : decode cX4_worthNow 11 = .ok (.iaload, 1) := dk_46 (dk_at dksX4_worthNow_0 11 rfl rfl)
theorem dX4_worthNow_12 : decode cX4_worthNow 12 = .ok (.iadd, 1) := dk_96 (dk_at dksX4_worthNow_0 12 rfl rfl)
theorem dX4_worthNow_13 : decode cX4_worthNow 13 = .ok (.aload_n 0, 1) := dk_42 (dk_at dksX4_worthNow_0 13 rfl rfl)
theorem dX4_worthNow_14 : decode cX4_worthNow 14 = .ok (.iload_n 1, 1) := dk_27 (dk_at dksX4_worthNow_0 14 rfl rfl)
theorem dX4_worthNow_15 : decode cX4_worthNow 15 = .ok (.iconst 1, 1) := dk_4 (dk_at dksX4_worthNow_0 15 rfl rfl)
theorem dX4_worthNow_16 : decode cX4_worthNow 16 = .ok (.invokevirtual 175, 3) := dk_182 0 175 (dk_at dksX4_worthNow_0 16 rfl rfl)
theorem dX4_worthNow_19 : decode cX4_worthNow 19 = .ok (.isub, 1) := dk_100 (dk_at dksX4_worthNow_0 19 rfl rfl)
theorem dX4_worthNow_20 : decode cX4_worthNow 20 = .ok (.istore_n 2, 1) := dk_61 (dk_at dksX4_worthNow_0 20 rfl rfl)
theorem dX4_worthNow_21 : decode cX4_worthNow 21 = .ok (.iconst 0, 1) := dk_3 (dk_at dksX4_worthNow_0 21 rfl rfl)
theorem dX4_worthNow_22 : decode cX4_worthNow 22 = .ok (.istore_n 3, 1) := dk_62 (dk_at dksX4_worthNow_0 22 rfl rfl)
theorem dX4_worthNow_23 : decode cX4_worthNow 23 = .ok (.iload_n 3, 1) := dk_29 (dk_at dksX4_worthNow_0 23 rfl rfl)
theorem dX4_worthNow_24 : decode cX4_worthNow 24 = .ok (.aload_n 0, 1) := dk_42 (dk_at dksX4_worthNow_1 0 rfl rfl)
theorem dX4_worthNow_25 : decode cX4_worthNow 25 = .ok (.getfield 7, 3) := dk_180 0 7 (dk_at dksX4_worthNow_1 1 rfl rfl)
theorem dX4_worthNow_28 : decode cX4_worthNow 28 = .ok (.iconst 0, 1) := dk_3 (dk_at dksX4_worthNow_1 4 rfl rfl)
theorem dX4_worthNow_29 : decode cX4_worthNow 29 = .ok (.iaload, 1) := dk_46 (dk_at dksX4_worthNow_1 5 rfl rfl)
theorem dX4_worthNow_30 : decode cX4_worthNow 30 = .ok (.if_icmp .ge 30, 3) := dk_162 0 30 (dk_at dksX4_worthNow_1 6 rfl rfl)
theorem dX4_worthNow_33 : decode cX4_worthNow 33 = .ok (.iload_n 2, 1) := dk_28 (dk_at dksX4_worthNow_1 9 rfl rfl)
theorem dX4_worthNow_34 : decode cX4_worthNow 34 = .ok (.aload_n 0, 1) := dk_42 (dk_at dksX4_worthNow_1 10 rfl rfl)
theorem dX4_worthNow_35 : decode cX4_worthNow 35 = .ok (.iload_n 1, 1) := dk_27 (dk_at dksX4_worthNow_1 11 rfl rfl)
theorem dX4_worthNow_36 : decode cX4_worthNow 36 = .ok (.iload_n 3, 1) := dk_29 (dk_at dksX4_worthNow_1 12 rfl rfl)
theorem dX4_worthNow_37 : decode cX4_worthNow 37 = .ok (.invokevirtual 72, 3) := dk_182 0 72 (dk_at dksX4_worthNow_1 13 rfl rfl)
theorem dX4_worthNow_40 : decode cX4_worthNow 40 = .ok (.aload_n 0, 1) := dk_42 (dk_at dksX4_worthNow_1 16 rfl rfl)
theorem dX4_worthNow_41 : decode cX4_worthNow 41 = .ok (.iload_n 3, 1) := dk_29 (dk_at dksX4_worthNow_1 17 rfl rfl)
theorem dX4_worthNow_42 : decode cX4_worthNow 42 = .ok (.aload_n 0, 1) := dk_42 (dk_at dksX4_worthNow_1 18 rfl rfl)
theorem dX4_worthNow_43 : decode cX4_worthNow 43 = .ok (.getfield 22, 3) := dk_180 0 22 (dk_at dksX4_worthNow_1 19 rfl rfl)
theorem dX4_worthNow_46 : decode cX4_worthNow 46 = .ok (.iload_n 3, 1) := dk_29 (dk_at dksX4_worthNow_1 22 rfl rfl)
theorem dX4_worthNow_47 : decode cX4_worthNow 47 = .ok (.iaload, 1) := dk_46 (dk_at dksX4_worthNow_1 23 rfl rfl)
theorem dX4_worthNow_48 : decode cX4_worthNow 48 = .ok (.invokevirtual 178, 3) := dk_182 0 178 (dk_at dksX4_worthNow_2 0 rfl rfl)
theorem dX4_worthNow_51 : decode cX4_worthNow 51 = .ok (.imul, 1) := dk_104 (dk_at dksX4_worthNow_2 3 rfl rfl)
theorem dX4_worthNow_52 : decode cX4_worthNow 52 = .ok (.iadd, 1) := dk_96 (dk_at dksX4_worthNow_2 4 rfl rfl)
theorem dX4_worthNow_53 : decode cX4_worthNow 53 = .ok (.istore_n 2, 1) := dk_61 (dk_at dksX4_worthNow_2 5 rfl rfl)
theorem dX4_worthNow_54 : decode cX4_worthNow 54 = .ok (.iinc 3 1, 3) := dk_132 3 1 (dk_at dksX4_worthNow_2 6 rfl rfl)
theorem dX4_worthNow_57 : decode cX4_worthNow 57 = .ok (.goto (-34), 3) := dk_167 255 222 (dk_at dksX4_worthNow_2 9 rfl rfl)
theorem dX4_worthNow_60 : decode cX4_worthNow 60 = .ok (.iconst 0, 1) := dk_3 (dk_at dksX4_worthNow_2 12 rfl rfl)
theorem dX4_worthNow_61 : decode cX4_worthNow 61 = .ok (.istore_n 3, 1) := dk_62 (dk_at dksX4_worthNow_2 13 rfl rfl)
theorem dX4_worthNow_62 : decode cX4_worthNow 62 = .ok (.iload_n 3, 1) := dk_29 (dk_at dksX4_worthNow_2 14 rfl rfl)
theorem dX4_worthNow_63 : decode cX4_worthNow 63 = .ok (.aload_n 0, 1) := dk_42 (dk_at dksX4_worthNow_2 15 rfl rfl)
theorem dX4_worthNow_64 : decode cX4_worthNow 64 = .ok (.getfield 7, 3) := dk_180 0 7 (dk_at dksX4_worthNow_2 16 rfl rfl)
theorem dX4_worthNow_67 : decode cX4_worthNow 67 = .ok (.iconst 1, 1) := dk_4 (dk_at dksX4_worthNow_2 19 rfl rfl)
theorem dX4_worthNow_68 : decode cX4_worthNow 68 = .ok (.iaload, 1) := dk_46 (dk_at dksX4_worthNow_2 20 rfl rfl)
theorem dX4_worthNow_69 : decode cX4_worthNow 69 = .ok (.if_icmp .ge 42, 3) := dk_162 0 42 (dk_at dksX4_worthNow_2 21 rfl rfl)
theorem dX4_worthNow_72 : decode cX4_worthNow 72 = .ok (.iload_n 2, 1) := dk_28 (dk_at dksX4_worthNow_3 0 rfl rfl)
theorem dX4_worthNow_73 : decode cX4_worthNow 73 = .ok (.aload_n 0, 1) := dk_42 (dk_at dksX4_worthNow_3 1 rfl rfl)
theorem dX4_worthNow_74 : decode cX4_worthNow 74 = .ok (.iload_n 1, 1) := dk_27 (dk_at dksX4_worthNow_3 2 rfl rfl)
theorem dX4_worthNow_75 : decode cX4_worthNow 75 = .ok (.iload_n 3, 1) := dk_29 (dk_at dksX4_worthNow_3 3 rfl rfl)
theorem dX4_worthNow_76 : decode cX4_worthNow 76 = .ok (.invokevirtual 181, 3) := dk_182 0 181 (dk_at dksX4_worthNow_3 4 rfl rfl)
theorem dX4_worthNow_79 : decode cX4_worthNow 79 = .ok (.isub, 1) := dk_100 (dk_at dksX4_worthNow_3 7 rfl rfl)
theorem dX4_worthNow_80 : decode cX4_worthNow 80 = .ok (.istore_n 2, 1) := dk_61 (dk_at dksX4_worthNow_3 8 rfl rfl)
theorem dX4_worthNow_81 : decode cX4_worthNow 81 = .ok (.iload_n 2, 1) := dk_28 (dk_at dksX4_worthNow_3 9 rfl rfl)
theorem dX4_worthNow_82 : decode cX4_worthNow 82 = .ok (.aload_n 0, 1) := dk_42 (dk_at dksX4_worthNow_3 10 rfl rfl)
theorem dX4_worthNow_83 : decode cX4_worthNow 83 = .ok (.getfield 184, 3) := dk_180 0 184 (dk_at dksX4_worthNow_3 11 rfl rfl)
theorem dX4_worthNow_86 : decode cX4_worthNow 86 = .ok (.iload_n 3, 1) := dk_29 (dk_at dksX4_worthNow_3 14 rfl rfl)
theorem dX4_worthNow_87 : decode cX4_worthNow 87 = .ok (.ishr, 1) := dk_122 (dk_at dksX4_worthNow_3 15 rfl rfl)
theorem dX4_worthNow_88 : decode cX4_worthNow 88 = .ok (.iconst 1, 1) := dk_4 (dk_at dksX4_worthNow_3 16 rfl rfl)
theorem dX4_worthNow_89 : decode cX4_worthNow 89 = .ok (.iand, 1) := dk_126 (dk_at dksX4_worthNow_3 17 rfl rfl)
theorem dX4_worthNow_90 : decode cX4_worthNow 90 = .ok (.ifCond .ne 12, 3) := dk_154 0 12 (dk_at dksX4_worthNow_3 18 rfl rfl)
theorem dX4_worthNow_93 : decode cX4_worthNow 93 = .ok (.aload_n 0, 1) := dk_42 (dk_at dksX4_worthNow_3 21 rfl rfl)
theorem dX4_worthNow_94 : decode cX4_worthNow 94 = .ok (.iload_n 3, 1) := dk_29 (dk_at dksX4_worthNow_3 22 rfl rfl)
theorem dX4_worthNow_95 : decode cX4_worthNow 95 = .ok (.iload_n 1, 1) := dk_27 (dk_at dksX4_worthNow_3 23 rfl rfl)
theorem dX4_worthNow_96 : decode cX4_worthNow 96 = .ok (.invokevirtual 181, 3) := dk_182 0 181 (dk_at dksX4_worthNow_4 0 rfl rfl)
theorem dX4_worthNow_99 : decode cX4_worthNow 99 = .ok (.goto 4, 3) := dk_167 0 4 (dk_at dksX4_worthNow_4 3 rfl rfl)
theorem dX4_worthNow_102 : decode cX4_worthNow 102 = .ok (.iconst 0, 1) := dk_3 (dk_at dksX4_worthNow_4 6 rfl rfl)
theorem dX4_worthNow_103 : decode cX4_worthNow 103 = .ok (.iadd, 1) := dk_96 (dk_at dksX4_worthNow_4 7 rfl rfl)
theorem dX4_worthNow_104 : decode cX4_worthNow 104 = .ok (.istore_n 2, 1) := dk_61 (dk_at dksX4_worthNow_4 8 rfl rfl)
theorem dX4_worthNow_105 : decode cX4_worthNow 105 = .ok (.iinc 3 1, 3) := dk_132 3 1 (dk_at dksX4_worthNow_4 9 rfl rfl)
theorem dX4_worthNow_108 : decode cX4_worthNow 108 = .ok (.goto (-46), 3) := dk_167 255 210 (dk_at dksX4_worthNow_4 12 rfl rfl)
theorem dX4_worthNow_111 : decode cX4_worthNow 111 = .ok (.iload_n 2, 1) := dk_28 (dk_at dksX4_worthNow_4 15 rfl rfl)
theorem dX4_worthNow_112 : decode cX4_worthNow 112 = .ok (.ireturn, 1) := dk_172 (dk_at dksX4_worthNow_4 16 rfl rfl)
def dkwX4_priceBy_3 : List UInt8 := [158, 0, 7, 29, 167, 0, 4, 3, 104, 100, 54, 5, 21, 5, 158, 0, 8, 21, 5, 167, 0, 4, 3, 172]
abbrev dktX4_priceBy_3 : List UInt8 := dkwX4_priceBy_3 ++ []
def dkwX4_priceBy_2 : List UInt8 := [27, 96, 46, 42, 180, 0, 41, 104, 16, 100, 108, 21, 4, 100, 42, 180, 0, 7, 16, 6, 27, 96, 46, 29]
abbrev dktX4_priceBy_2 : List UInt8 := dkwX4_priceBy_2 ++ dktX4_priceBy_3
def dkwX4_priceBy_1 : List UInt8 := [27, 42, 180, 0, 31, 160, 0, 10, 42, 180, 0, 159, 167, 0, 4, 3, 96, 54, 4, 42, 180, 0, 7, 5]
abbrev dktX4_priceBy_1 : List UInt8 := dkwX4_priceBy_1 ++ dktX4_priceBy_2
def dkwX4_priceBy_0 : List UInt8 := [27, 42, 180, 0, 38, 160, 0, 12, 28, 42, 180, 0, 162, 100, 167, 0, 4, 28, 62, 42, 27, 182, 0, 172]
abbrev dktX4_priceBy_0 : List UInt8 := dkwX4_priceBy_0 ++ dktX4_priceBy_1
theorem dksX4_priceBy_0 : cX4_priceBy.data.toList.drop 0 = dktX4_priceBy_0 := by decide +kernel
theorem dksX4_priceBy_1 : cX4_priceBy.data.toList.drop 24 = dktX4_priceBy_1 := dk_seg dksX4_priceBy_0 24 rfl rfl
theorem dksX4_priceBy_2 : cX4_priceBy.data.toList.drop 48 = dktX4_priceBy_2 := dk_seg dksX4_priceBy_1 24 rfl rfl
theorem dksX4_priceBy_3 : cX4_priceBy.data.toList.drop 72 = dktX4_priceBy_3 := dk_seg dksX4_priceBy_2 24 rfl rfl
theorem dX4_priceBy_0 : decode cX4_priceBy 0 = .ok (.iload_n 1, 1) := dk_27 (dk_at dksX4_priceBy_0 0 rfl rfl)
theorem dX4_priceBy_1 : decode cX4_priceBy 1 = .ok (.aload_n 0, 1) := dk_42 (dk_at dksX4_priceBy_0 1 rfl rfl)
theorem dX4_priceBy_2 : decode cX4_priceBy 2 = .ok (.getfield 38, 3) := dk_180 0 38 (dk_at dksX4_priceBy_0 2 rfl rfl)
theorem dX4_priceBy_5 : decode cX4_priceBy 5 = .ok (.if_icmp .ne 12, 3) := dk_160 0 12 (dk_at dksX4_priceBy_0 5 rfl rfl)
theorem dX4_priceBy_8 : decode cX4_priceBy 8 = .ok (.iload_n 2, 1) := dk_28 (dk_at dksX4_priceBy_0 8 rfl rfl)
theorem dX4_priceBy_9 : decode cX4_priceBy 9 = .ok (.aload_n 0, 1) := dk_42 (dk_at dksX4_priceBy_0 9 rfl rfl)
theorem dX4_priceBy_10 : decode cX4_priceBy 10 = .ok (.getfield 162, 3) := dk_180 0 162 (dk_at dksX4_priceBy_0 10 rfl rfl)
theorem dX4_priceBy_13 : decode cX4_priceBy 13 = .ok (.isub, 1) := dk_100 (dk_at dksX4_priceBy_0 13 rfl rfl)
theorem dX4_priceBy_14 : decode cX4_priceBy 14 = .ok (.goto 4, 3) := dk_167 0 4 (dk_at dksX4_priceBy_0 14 rfl rfl)
theorem dX4_priceBy_17 : decode cX4_priceBy 17 = .ok (.iload_n 2, 1) := dk_28 (dk_at dksX4_priceBy_0 17 rfl rfl)
theorem dX4_priceBy_18 : decode cX4_priceBy 18 = .ok (.istore_n 3, 1) := dk_62 (dk_at dksX4_priceBy_0 18 rfl rfl)
theorem dX4_priceBy_19 : decode cX4_priceBy 19 = .ok (.aload_n 0, 1) := dk_42 (dk_at dksX4_priceBy_0 19 rfl rfl)
theorem dX4_priceBy_20 : decode cX4_priceBy 20 = .ok (.iload_n 1, 1) := dk_27 (dk_at dksX4_priceBy_0 20 rfl rfl)
theorem dX4_priceBy_21 : decode cX4_priceBy 21 = .ok (.invokevirtual 172, 3) := dk_182 0 172 (dk_at dksX4_priceBy_0 21 rfl rfl)
theorem dX4_priceBy_24 : decode cX4_priceBy 24 = .ok (.iload_n 1, 1) := dk_27 (dk_at dksX4_priceBy_1 0 rfl rfl)
theorem dX4_priceBy_25 : decode cX4_priceBy 25 = .ok (.aload_n 0, 1) := dk_42 (dk_at dksX4_priceBy_1 1 rfl rfl)
theorem dX4_priceBy_26 : decode cX4_priceBy 26 = .ok (.getfield 31, 3) := dk_180 0 31 (dk_at dksX4_priceBy_1 2 rfl rfl)
theorem dX4_priceBy_29 : decode cX4_priceBy 29 = .ok (.if_icmp .ne 10, 3) := dk_160 0 10 (dk_at dksX4_priceBy_1 5 rfl rfl)
theorem dX4_priceBy_32 : decode cX4_priceBy 32 = .ok (.aload_n 0, 1) := dk_42 (dk_at dksX4_priceBy_1 8 rfl rfl)
theorem dX4_priceBy_33 : decode cX4_priceBy 33 = .ok (.getfield 159, 3) := dk_180 0 159 (dk_at dksX4_priceBy_1 9 rfl rfl)
theorem dX4_priceBy_36 : decode cX4_priceBy 36 = .ok (.goto 4, 3) := dk_167 0 4 (dk_at dksX4_priceBy_1 12 rfl rfl)
theorem dX4_priceBy_39 : decode cX4_priceBy 39 = .ok (.iconst 0, 1) := dk_3 (dk_at dksX4_priceBy_1 15 rfl rfl)
theorem dX4_priceBy_40 : decode cX4_priceBy 40 = .ok (.iadd, 1) := dk_96 (dk_at dksX4_priceBy_1 16 rfl rfl)
theorem dX4_priceBy_41 : decode cX4_priceBy 41 = .ok (.istore 4, 2) := dk_54 4 (dk_at dksX4_priceBy_1 17 rfl rfl)
theorem dX4_priceBy_43 : decode cX4_priceBy 43 = .ok (.aload_n 0, 1) := dk_42 (dk_at dksX4_priceBy_1 19 rfl rfl)
theorem dX4_priceBy_44 : decode cX4_priceBy 44 = .ok (.getfield 7, 3) := dk_180 0 7 (dk_at dksX4_priceBy_1 20 rfl rfl)
theorem dX4_priceBy_47 : decode cX4_priceBy 47 = .ok (.iconst 2, 1) := dk_5 (dk_at dksX4_priceBy_1 23 rfl rfl)
theorem dX4_priceBy_48 : decode cX4_priceBy 48 = .ok (.iload_n 1, 1) := dk_27 (dk_at dksX4_priceBy_2 0 rfl rfl)
theorem dX4_priceBy_49 : decode cX4_priceBy 49 = .ok (.iadd, 1) := dk_96 (dk_at dksX4_priceBy_2 1 rfl rfl)
theorem dX4_priceBy_50 : decode cX4_priceBy 50 = .ok (.iaload, 1) := dk_46 (dk_at dksX4_priceBy_2 2 rfl rfl)
theorem dX4_priceBy_51 : decode cX4_priceBy 51 = .ok (.aload_n 0, 1) := dk_42 (dk_at dksX4_priceBy_2 3 rfl rfl)
theorem dX4_priceBy_52 : decode cX4_priceBy 52 = .ok (.getfield 41, 3) := dk_180 0 41 (dk_at dksX4_priceBy_2 4 rfl rfl)
theorem dX4_priceBy_55 : decode cX4_priceBy 55 = .ok (.imul, 1) := dk_104 (dk_at dksX4_priceBy_2 7 rfl rfl)
theorem dX4_priceBy_56 : decode cX4_priceBy 56 = .ok (.bipush 100, 2) := dk_16 100 (dk_at dksX4_priceBy_2 8 rfl rfl)
theorem dX4_priceBy_58 : decode cX4_priceBy 58 = .ok (.idiv, 1) := dk_108 (dk_at dksX4_priceBy_2 10 rfl rfl)
theorem dX4_priceBy_59 : decode cX4_priceBy 59 = .ok (.iload 4, 2) := dk_21 4 (dk_at dksX4_priceBy_2 11 rfl rfl)
theorem dX4_priceBy_61 : decode cX4_priceBy 61 = .ok (.isub, 1) := dk_100 (dk_at dksX4_priceBy_2 13 rfl rfl)
theorem dX4_priceBy_62 : decode cX4_priceBy 62 = .ok (.aload_n 0, 1) := dk_42 (dk_at dksX4_priceBy_2 14 rfl rfl)
theorem dX4_priceBy_63 : decode cX4_priceBy 63 = .ok (.getfield 7, 3) := dk_180 0 7 (dk_at dksX4_priceBy_2 15 rfl rfl)
theorem dX4_priceBy_66 : decode cX4_priceBy 66 = .ok (.bipush 6, 2) := dk_16 6 (dk_at dksX4_priceBy_2 18 rfl rfl)
theorem dX4_priceBy_68 : decode cX4_priceBy 68 = .ok (.iload_n 1, 1) := dk_27 (dk_at dksX4_priceBy_2 20 rfl rfl)
theorem dX4_priceBy_69 : decode cX4_priceBy 69 = .ok (.iadd, 1) := dk_96 (dk_at dksX4_priceBy_2 21 rfl rfl)
theorem dX4_priceBy_70 : decode cX4_priceBy 70 = .ok (.iaload, 1) := dk_46 (dk_at dksX4_priceBy_2 22 rfl rfl)
theorem dX4_priceBy_71 : decode cX4_priceBy 71 = .ok (.iload_n 3, 1) := dk_29 (dk_at dksX4_priceBy_2 23 rfl rfl)
theorem dX4_priceBy_72 : decode cX4_priceBy 72 = .ok (.ifCond .le 7, 3) := dk_158 0 7 (dk_at dksX4_priceBy_3 0 rfl rfl)
theorem dX4_priceBy_75 : decode cX4_priceBy 75 = .ok (.iload_n 3, 1) := dk_29 (dk_at dksX4_priceBy_3 3 rfl rfl)
theorem dX4_priceBy_76 : decode cX4_priceBy 76 = .ok (.goto 4, 3) := dk_167 0 4 (dk_at dksX4_priceBy_3 4 rfl rfl)
theorem dX4_priceBy_79 : decode cX4_priceBy 79 = .ok (.iconst 0, 1) := dk_3 (dk_at dksX4_priceBy_3 7 rfl rfl)
theorem dX4_priceBy_80 : decode cX4_priceBy 80 = .ok (.imul, 1) := dk_104 (dk_at dksX4_priceBy_3 8 rfl rfl)
theorem dX4_priceBy_81 : decode cX4_priceBy 81 = .ok (.isub, 1) := dk_100 (dk_at dksX4_priceBy_3 9 rfl rfl)
theorem dX4_priceBy_82 : decode cX4_priceBy 82 = .ok (.istore 5, 2) := dk_54 5 (dk_at dksX4_priceBy_3 10 rfl rfl)
theorem dX4_priceBy_84 : decode cX4_priceBy 84 = .ok (.iload 5, 2) := dk_21 5 (dk_at dksX4_priceBy_3 12 rfl rfl)
theorem dX4_priceBy_86 : decode cX4_priceBy 86 = .ok (.ifCond .le 8, 3) := dk_158 0 8 (dk_at dksX4_priceBy_3 14 rfl rfl)
theorem dX4_priceBy_89 : decode cX4_priceBy 89 = .ok (.iload 5, 2) := dk_21 5 (dk_at dksX4_priceBy_3 17 rfl rfl)
theorem dX4_priceBy_91 : decode cX4_priceBy 91 = .ok (.goto 4, 3) := dk_167 0 4 (dk_at dksX4_priceBy_3 19 rfl rfl)
theorem dX4_priceBy_94 : decode cX4_priceBy 94 = .ok (.iconst 0, 1) := dk_3 (dk_at dksX4_priceBy_3 22 rfl rfl)
theorem dX4_priceBy_95 : decode cX4_priceBy 95 = .ok (.ireturn, 1) := dk_172 (dk_at dksX4_priceBy_3 23 rfl rfl)
def dkwX4_shockNow_3 : List UInt8 := [167, 255, 197, 132, 3, 1, 167, 255, 183, 28, 172]
abbrev dktX4_shockNow_3 : List UInt8 := dkwX4_shockNow_3 ++ []
def dkwX4_shockNow_2 : List UInt8 := [182, 0, 155, 27, 160, 0, 14, 42, 29, 21, 4, 5, 182, 0, 155, 167, 0, 4, 3, 96, 61, 132, 4, 1]
abbrev dktX4_shockNow_2 : List UInt8 := dkwX4_shockNow_2 ++ dktX4_shockNow_3
def dkwX4_shockNow_1 : List UInt8 := [96, 46, 162, 0, 48, 28, 42, 29, 21, 4, 3, 182, 0, 155, 4, 160, 0, 26, 42, 29, 21, 4, 4]
abbrev dktX4_shockNow_1 : List UInt8 := dkwX4_shockNow_1 ++ dktX4_shockNow_2
def dkwX4_shockNow_0 : List UInt8 := [3, 61, 3, 62, 29, 6, 162, 0, 74, 3, 54, 4, 21, 4, 42, 180, 0, 7, 16, 100, 16, 13, 29, 104]
abbrev dktX4_shockNow_0 : List UInt8 := dkwX4_shockNow_0 ++ dktX4_shockNow_1
theorem dksX4_shockNow_0 : cX4_shockNow.data.toList.drop 0 = dktX4_shockNow_0 := by decide +kernel
theorem dksX4_shockNow_1 : cX4_shockNow.data.toList.drop 24 = dktX4_shockNow_1 := dk_seg dksX4_shockNow_0 24 rfl rfl
theorem dksX4_shockNow_2 : cX4_shockNow.data.toList.drop 47 = dktX4_shockNow_2 := dk_seg dksX4_shockNow_1 23 rfl rfl
theorem dksX4_shockNow_3 : cX4_shockNow.data.toList.drop 71 = dktX4_shockNow_3 := dk_seg dksX4_shockNow_2 24 rfl rfl
theorem dX4_shockNow_0 : decode cX4_shockNow 0 = .ok (.iconst 0, 1) := dk_3 (dk_at dksX4_shockNow_0 0 rfl rfl)
theorem dX4_shockNow_1 : decode cX4_shockNow 1 = .ok (.istore_n 2, 1) := dk_61 (dk_at dksX4_shockNow_0 1 rfl rfl)
theorem dX4_shockNow_2 : decode cX4_shockNow 2 = .ok (.iconst 0, 1) := dk_3 (dk_at dksX4_shockNow_0 2 rfl rfl)
theorem dX4_shockNow_3 : decode cX4_shockNow 3 = .ok (.istore_n 3, 1) := dk_62 (dk_at dksX4_shockNow_0 3 rfl rfl)
theorem dX4_shockNow_4 : decode cX4_shockNow 4 = .ok (.iload_n 3, 1) := dk_29 (dk_at dksX4_shockNow_0 4 rfl rfl)
theorem dX4_shockNow_5 : decode cX4_shockNow 5 = .ok (.iconst 3, 1) := dk_6 (dk_at dksX4_shockNow_0 5 rfl rfl)
theorem dX4_shockNow_6 : decode cX4_shockNow 6 = .ok (.if_icmp .ge 74, 3) := dk_162 0 74 (dk_at dksX4_shockNow_0 6 rfl rfl)
theorem dX4_shockNow_9 : decode cX4_shockNow 9 = .ok (.iconst 0, 1) := dk_3 (dk_at dksX4_shockNow_0 9 rfl rfl)
theorem dX4_shockNow_10 : decode cX4_shockNow 10 = .ok (.istore 4, 2) := dk_54 4 (dk_at dksX4_shockNow_0 10 rfl rfl)
theorem dX4_shockNow_12 : decode cX4_shockNow 12 = .ok (.iload 4, 2) := dk_21 4 (dk_at dksX4_shockNow_0 12 rfl rfl)
theorem dX4_shockNow_14 : decode cX4_shockNow 14 = .ok (.aload_n 0, 1) := dk_42 (dk_at dksX4_shockNow_0 14 rfl rfl)
theorem dX4_shockNow_15 : decode cX4_shockNow 15 = .ok (.getfield 7, 3) := dk_180 0 7 (dk_at dksX4_shockNow_0 15 rfl rfl)
theorem dX4_shockNow_18 : decode cX4_shockNow 18 = .ok (.bipush 100, 2) := dk_16 100 (dk_at dksX4_shockNow_0 18 rfl rfl)
theorem dX4_shockNow_20 : decode cX4_shockNow 20 = .ok (.bipush 13, 2) := dk_16 13 (dk_at dksX4_shockNow_0 20 rfl rfl)
theorem dX4_shockNow_22 : decode cX4_shockNow 22 = .ok (.iload_n 3, 1) := dk_29 (dk_at dksX4_shockNow_0 22 rfl rfl)
theorem dX4_shockNow_23 : decode cX4_shockNow 23 = .ok (.imul, 1) := dk_104 (dk_at dksX4_shockNow_0 23 rfl rfl)
theorem dX4_shockNow_24 : decode cX4_shockNow 24 = .ok (.iadd, 1) := dk_96 (dk_at dksX4_shockNow_1 0 rfl rfl)
theorem dX4_shockNow_25 : decode cX4_shockNow 25 = .ok (.iaload, 1) := dk_46 (dk_at dksX4_shockNow_1 1 rfl rfl)
theorem dX4_shockNow_26 : decode cX4_shockNow 26 = .ok (.if_icmp .ge 48, 3) := dk_162 0 48 (dk_at dksX4_shockNow_1 2 rfl rfl)
theorem dX4_shockNow_29 : decode cX4_shockNow 29 = .ok (.iload_n 2, 1) := dk_28 (dk_at dksX4_shockNow_1 5 rfl rfl)
theorem dX4_shockNow_30 : decode cX4_shockNow 30 = .ok (.aload_n 0, 1) := dk_42 (dk_at dksX4_shockNow_1 6 rfl rfl)
theorem dX4_shockNow_31 : decode cX4_shockNow 31 = .ok (.iload_n 3, 1) := dk_29 (dk_at dksX4_shockNow_1 7 rfl rfl)
theorem dX4_shockNow_32 : decode cX4_shockNow 32 = .ok (.iload 4, 2) := dk_21 4 (dk_at dksX4_shockNow_1 8 rfl rfl)
theorem dX4_shockNow_34 : decode cX4_shockNow 34 = .ok (.iconst 0, 1) := dk_3 (dk_at dksX4_shockNow_1 10 rfl rfl)
theorem dX4_shockNow_35 : decode cX4_shockNow 35 = .ok (.invokevirtual 155, 3) := dk_182 0 155 (dk_at dksX4_shockNow_1 11 rfl rfl)
theorem dX4_shockNow_38 : decode cX4_shockNow 38 = .ok (.iconst 1, 1) := dk_4 (dk_at dksX4_shockNow_1 14 rfl rfl)
theorem dX4_shockNow_39 : decode cX4_shockNow 39 = .ok (.if_icmp .ne 26, 3) := dk_160 0 26 (dk_at dksX4_shockNow_1 15 rfl rfl)
theorem dX4_shockNow_42 : decode cX4_shockNow 42 = .ok (.aload_n 0, 1) := dk_42 (dk_at dksX4_shockNow_1 18 rfl rfl)
theorem dX4_shockNow_43 : decode cX4_shockNow 43 = .ok (.iload_n 3, 1) := dk_29 (dk_at dksX4_shockNow_1 19 rfl rfl)
theorem dX4_shockNow_44 : decode cX4_shockNow 44 = .ok (.iload 4, 2) := dk_21 4 (dk_at dksX4_shockNow_1 20 rfl rfl)
theorem dX4_shockNow_46 : decode cX4_shockNow 46 = .ok (.iconst 1, 1) := dk_4 (dk_at dksX4_shockNow_1 22 rfl rfl)
theorem dX4_shockNow_47 : decode cX4_shockNow 47 = .ok (.invokevirtual 155, 3) := dk_182 0 155 (dk_at dksX4_shockNow_2 0 rfl rfl)
theorem dX4_shockNow_50 : decode cX4_shockNow 50 = .ok (.iload_n 1, 1) := dk_27 (dk_at dksX4_shockNow_2 3 rfl rfl)
theorem dX4_shockNow_51 : decode cX4_shockNow 51 = .ok (.if_icmp .ne 14, 3) := dk_160 0 14 (dk_at dksX4_shockNow_2 4 rfl rfl)
theorem dX4_shockNow_54 : decode cX4_shockNow 54 = .ok (.aload_n 0, 1) := dk_42 (dk_at dksX4_shockNow_2 7 rfl rfl)
theorem dX4_shockNow_55 : decode cX4_shockNow 55 = .ok (.iload_n 3, 1) := dk_29 (dk_at dksX4_shockNow_2 8 rfl rfl)
theorem dX4_shockNow_56 : decode cX4_shockNow 56 = .ok (.iload 4, 2) := dk_21 4 (dk_at dksX4_shockNow_2 9 rfl rfl)
theorem dX4_shockNow_58 : decode cX4_shockNow 58 = .ok (.iconst 2, 1) := dk_5 (dk_at dksX4_shockNow_2 11 rfl rfl)
theorem dX4_shockNow_59 : decode cX4_shockNow 59 = .ok (.invokevirtual 155, 3) := dk_182 0 155 (dk_at dksX4_shockNow_2 12 rfl rfl)
theorem dX4_shockNow_62 : decode cX4_shockNow 62 = .ok (.goto 4, 3) := dk_167 0 4 (dk_at dksX4_shockNow_2 15 rfl rfl)
theorem dX4_shockNow_65 : decode cX4_shockNow 65 = .ok (.iconst 0, 1) := dk_3 (dk_at dksX4_shockNow_2 18 rfl rfl)
theorem dX4_shockNow_66 : decode cX4_shockNow 66 = .ok (.iadd, 1) := dk_96 (dk_at dksX4_shockNow_2 19 rfl rfl)
theorem dX4_shockNow_67 : decode cX4_shockNow 67 = .ok (.istore_n 2, 1) := dk_61 (dk_at dksX4_shockNow_2 20 rfl rfl)
theorem dX4_shockNow_68 : decode cX4_shockNow 68 = .ok (.iinc 4 1, 3) := dk_132 4 1 (dk_at dksX4_shockNow_2 21 rfl rfl)
theorem dX4_shockNow_71 : decode cX4_shockNow 71 = .ok (.goto (-59), 3) := dk_167 255 197 (dk_at dksX4_shockNow_3 0 rfl rfl)
theorem dX4_shockNow_74 : decode cX4_shockNow 74 = .ok (.iinc 3 1, 3) := dk_132 3 1 (dk_at dksX4_shockNow_3 3 rfl rfl)
theorem dX4_shockNow_77 : decode cX4_shockNow 77 = .ok (.goto (-73), 3) := dk_167 255 183 (dk_at dksX4_shockNow_3 6 rfl rfl)
theorem dX4_shockNow_80 : decode cX4_shockNow 80 = .ok (.iload_n 2, 1) := dk_28 (dk_at dksX4_shockNow_3 9 rfl rfl)
theorem dX4_shockNow_81 : decode cX4_shockNow 81 = .ok (.ireturn, 1) := dk_172 (dk_at dksX4_shockNow_3 10 rfl rfl)
def dkwX4_laidOf_0 : List UInt8 := [42, 180, 0, 7, 16, 100, 16, 13, 27, 104, 96, 4, 96, 6, 28, 104, 96, 29, 96, 46, 172]
abbrev dktX4_laidOf_0 : List UInt8 := dkwX4_laidOf_0 ++ []
theorem dksX4_laidOf_0 : cX4_laidOf.data.toList.drop 0 = dktX4_laidOf_0 := by decide +kernel
theorem dX4_laidOf_0 : decode cX4_laidOf 0 = .ok (.aload_n 0, 1) := dk_42 (dk_at dksX4_laidOf_0 0 rfl rfl)
theorem dX4_laidOf_1 : decode cX4_laidOf 1 = .ok (.getfield 7, 3) := dk_180 0 7 (dk_at dksX4_laidOf_0 1 rfl rfl)
theorem dX4_laidOf_4 : decode cX4_laidOf 4 = .ok (.bipush 100, 2) := dk_16 100 (dk_at dksX4_laidOf_0 4 rfl rfl)
theorem dX4_laidOf_6 : decode cX4_laidOf 6 = .ok (.bipush 13, 2) := dk_16 13 (dk_at dksX4_laidOf_0 6 rfl rfl)
theorem dX4_laidOf_8 : decode cX4_laidOf 8 = .ok (.iload_n 1, 1) := dk_27 (dk_at dksX4_laidOf_0 8 rfl rfl)
theorem dX4_laidOf_9 : decode cX4_laidOf 9 = .ok (.imul, 1) := dk_104 (dk_at dksX4_laidOf_0 9 rfl rfl)
theorem dX4_laidOf_10 : decode cX4_laidOf 10 = .ok (.iadd, 1) := dk_96 (dk_at dksX4_laidOf_0 10 rfl rfl)
theorem dX4_laidOf_11 : decode cX4_laidOf 11 = .ok (.iconst 1, 1) := dk_4 (dk_at dksX4_laidOf_0 11 rfl rfl)
theorem dX4_laidOf_12 : decode cX4_laidOf 12 = .ok (.iadd, 1) := dk_96 (dk_at dksX4_laidOf_0 12 rfl rfl)
theorem dX4_laidOf_13 : decode cX4_laidOf 13 = .ok (.iconst 3, 1) := dk_6 (dk_at dksX4_laidOf_0 13 rfl rfl)
theorem dX4_laidOf_14 : decode cX4_laidOf 14 = .ok (.iload_n 2, 1) := dk_28 (dk_at dksX4_laidOf_0 14 rfl rfl)
theorem dX4_laidOf_15 : decode cX4_laidOf 15 = .ok (.imul, 1) := dk_104 (dk_at dksX4_laidOf_0 15 rfl rfl)
theorem dX4_laidOf_16 : decode cX4_laidOf 16 = .ok (.iadd, 1) := dk_96 (dk_at dksX4_laidOf_0 16 rfl rfl)
theorem dX4_laidOf_17 : decode cX4_laidOf 17 = .ok (.iload_n 3, 1) := dk_29 (dk_at dksX4_laidOf_0 17 rfl rfl)
theorem dX4_laidOf_18 : decode cX4_laidOf 18 = .ok (.iadd, 1) := dk_96 (dk_at dksX4_laidOf_0 18 rfl rfl)
theorem dX4_laidOf_19 : decode cX4_laidOf 19 = .ok (.iaload, 1) := dk_46 (dk_at dksX4_laidOf_0 19 rfl rfl)
theorem dX4_laidOf_20 : decode cX4_laidOf 20 = .ok (.ireturn, 1) := dk_172 (dk_at dksX4_laidOf_0 20 rfl rfl)
def dkwX4_must_2 : List UInt8 := [42, 27, 6, 182, 0, 175, 108, 54, 5, 21, 5, 29, 162, 0, 8, 21, 5, 167, 0, 4, 29, 172]
abbrev dktX4_must_2 : List UInt8 := dkwX4_must_2 ++ []
def dkwX4_must_1 : List UInt8 := [28, 100, 54, 4, 21, 4, 157, 0, 7, 3, 167, 0, 21, 21, 4, 42, 27, 6, 182, 0, 175, 96, 4, 100]
abbrev dktX4_must_1 : List UInt8 := dkwX4_must_1 ++ dktX4_must_2
def dkwX4_must_0 : List UInt8 := [42, 27, 182, 0, 187, 61, 42, 27, 182, 0, 190, 62, 28, 156, 0, 5, 29, 172, 42, 27, 5, 182, 0, 175]
abbrev dktX4_must_0 : List UInt8 := dkwX4_must_0 ++ dktX4_must_1
theorem dksX4_must_0 : cX4_must.data.toList.drop 0 = dktX4_must_0 := by decide +kernel
theorem dksX4_must_1 : cX4_must.data.toList.drop 24 = dktX4_must_1 := dk_seg dksX4_must_0 24 rfl rfl
theorem dksX4_must_2 : cX4_must.data.toList.drop 48 = dktX4_must_2 := dk_seg dksX4_must_1 24 rfl rfl
theorem dX4_must_0 : decode cX4_must 0 = .ok (.aload_n 0, 1) := dk_42 (dk_at dksX4_must_0 0 rfl rfl)
theorem dX4_must_1 : decode cX4_must 1 = .ok (.iload_n 1, 1) := dk_27 (dk_at dksX4_must_0 1 rfl rfl)
theorem dX4_must_2 : decode cX4_must 2 = .ok (.invokevirtual 187, 3) := dk_182 0 187 (dk_at dksX4_must_0 2 rfl rfl)
theorem dX4_must_5 : decode cX4_must 5 = .ok (.istore_n 2, 1) := dk_61 (dk_at dksX4_must_0 5 rfl rfl)
theorem dX4_must_6 : decode cX4_must 6 = .ok (.aload_n 0, 1) := dk_42 (dk_at dksX4_must_0 6 rfl rfl)
theorem dX4_must_7 : decode cX4_must 7 = .ok (.iload_n 1, 1) := dk_27 (dk_at dksX4_must_0 7 rfl rfl)
theorem dX4_must_8 : decode cX4_must 8 = .ok (.invokevirtual 190, 3) := dk_182 0 190 (dk_at dksX4_must_0 8 rfl rfl)
theorem dX4_must_11 : decode cX4_must 11 = .ok (.istore_n 3, 1) := dk_62 (dk_at dksX4_must_0 11 rfl rfl)
theorem dX4_must_12 : decode cX4_must 12 = .ok (.iload_n 2, 1) := dk_28 (dk_at dksX4_must_0 12 rfl rfl)
theorem dX4_must_13 : decode cX4_must 13 = .ok (.ifCond .ge 5, 3) := dk_156 0 5 (dk_at dksX4_must_0 13 rfl rfl)
theorem dX4_must_16 : decode cX4_must 16 = .ok (.iload_n 3, 1) := dk_29 (dk_at dksX4_must_0 16 rfl rfl)
theorem dX4_must_17 : decode cX4_must 17 = .ok (.ireturn, 1) := dk_172 (dk_at dksX4_must_0 17 rfl rfl)
theorem dX4_must_18 : decode cX4_must 18 = .ok (.aload_n 0, 1) := dk_42 (dk_at dksX4_must_0 18 rfl rfl)
theorem dX4_must_19 : decode cX4_must 19 = .ok (.iload_n 1, 1) := dk_27 (dk_at dksX4_must_0 19 rfl rfl)
theorem dX4_must_20 : decode cX4_must 20 = .ok (.iconst 2, 1) := dk_5 (dk_at dksX4_must_0 20 rfl rfl)
theorem dX4_must_21 : decode cX4_must 21 = .ok (.invokevirtual 175, 3) := dk_182 0 175 (dk_at dksX4_must_0 21 rfl rfl)
theorem dX4_must_24 : decode cX4_must 24 = .ok (.iload_n 2, 1) := dk_28 (dk_at dksX4_must_1 0 rfl rfl)
theorem dX4_must_25 : decode cX4_must 25 = .ok (.isub, 1) := dk_100 (dk_at dksX4_must_1 1 rfl rfl)
theorem dX4_must_26 : decode cX4_must 26 = .ok (.istore 4, 2) := dk_54 4 (dk_at dksX4_must_1 2 rfl rfl)
theorem dX4_must_28 : decode cX4_must 28 = .ok (.iload 4, 2) := dk_21 4 (dk_at dksX4_must_1 4 rfl rfl)
theorem dX4_must_30 : decode cX4_must 30 = .ok (.ifCond .gt 7, 3) := dk_157 0 7 (dk_at dksX4_must_1 6 rfl rfl)
theorem dX4_must_33 : decode cX4_must 33 = .ok (.iconst 0, 1) := dk_3 (dk_at dksX4_must_1 9 rfl rfl)
theorem dX4_must_34 : decode cX4_must 34 = .ok (.goto 21, 3) := dk_167 0 21 (dk_at dksX4_must_1 10 rfl rfl)
theorem dX4_must_37 : decode cX4_must 37 = .ok (.iload 4, 2) := dk_21 4 (dk_at dksX4_must_1 13 rfl rfl)
theorem dX4_must_39 : decode cX4_must 39 = .ok (.aload_n 0, 1) := dk_42 (dk_at dksX4_must_1 15 rfl rfl)
theorem dX4_must_40 : decode cX4_must 40 = .ok (.iload_n 1, 1) := dk_27 (dk_at dksX4_must_1 16 rfl rfl)
theorem dX4_must_41 : decode cX4_must 41 = .ok (.iconst 3, 1) := dk_6 (dk_at dksX4_must_1 17 rfl rfl)
theorem dX4_must_42 : decode cX4_must 42 = .ok (.invokevirtual 175, 3) := dk_182 0 175 (dk_at dksX4_must_1 18 rfl rfl)
theorem dX4_must_45 : decode cX4_must 45 = .ok (.iadd, 1) := dk_96 (dk_at dksX4_must_1 21 rfl rfl)
theorem dX4_must_46 : decode cX4_must 46 = .ok (.iconst 1, 1) := dk_4 (dk_at dksX4_must_1 22 rfl rfl)
theorem dX4_must_47 : decode cX4_must 47 = .ok (.isub, 1) := dk_100 (dk_at dksX4_must_1 23 rfl rfl)
theorem dX4_must_48 : decode cX4_must 48 = .ok (.aload_n 0, 1) := dk_42 (dk_at dksX4_must_2 0 rfl rfl)
theorem dX4_must_49 : decode cX4_must 49 = .ok (.iload_n 1, 1) := dk_27 (dk_at dksX4_must_2 1 rfl rfl)
theorem dX4_must_50 : decode cX4_must 50 = .ok (.iconst 3, 1) := dk_6 (dk_at dksX4_must_2 2 rfl rfl)
theorem dX4_must_51 : decode cX4_must 51 = .ok (.invokevirtual 175, 3) := dk_182 0 175 (dk_at dksX4_must_2 3 rfl rfl)
theorem dX4_must_54 : decode cX4_must 54 = .ok (.idiv, 1) := dk_108 (dk_at dksX4_must_2 6 rfl rfl)
theorem dX4_must_55 : decode cX4_must 55 = .ok (.istore 5, 2) := dk_54 5 (dk_at dksX4_must_2 7 rfl rfl)
theorem dX4_must_57 : decode cX4_must 57 = .ok (.iload 5, 2) := dk_21 5 (dk_at dksX4_must_2 9 rfl rfl)
theorem dX4_must_59 : decode cX4_must 59 = .ok (.iload_n 3, 1) := dk_29 (dk_at dksX4_must_2 11 rfl rfl)
theorem dX4_must_60 : decode cX4_must 60 = .ok (.if_icmp .ge 8, 3) := dk_162 0 8 (dk_at dksX4_must_2 12 rfl rfl)
theorem dX4_must_63 : decode cX4_must 63 = .ok (.iload 5, 2) := dk_21 5 (dk_at dksX4_must_2 15 rfl rfl)
theorem dX4_must_65 : decode cX4_must 65 = .ok (.goto 4, 3) := dk_167 0 4 (dk_at dksX4_must_2 17 rfl rfl)
theorem dX4_must_68 : decode cX4_must 68 = .ok (.iload_n 3, 1) := dk_29 (dk_at dksX4_must_2 20 rfl rfl)
theorem dX4_must_69 : decode cX4_must 69 = .ok (.ireturn, 1) := dk_172 (dk_at dksX4_must_2 21 rfl rfl)
def dkwX4_piecesOf_1 : List UInt8 := [132, 3, 1, 167, 255, 234, 28, 172]
abbrev dktX4_piecesOf_1 : List UInt8 := dkwX4_piecesOf_1 ++ []
def dkwX4_piecesOf_0 : List UInt8 := [3, 61, 3, 62, 29, 42, 180, 0, 7, 3, 46, 162, 0, 18, 28, 42, 27, 29, 182, 0, 72, 96, 61]
abbrev dktX4_piecesOf_0 : List UInt8 := dkwX4_piecesOf_0 ++ dktX4_piecesOf_1
theorem dksX4_piecesOf_0 : cX4_piecesOf.data.toList.drop 0 = dktX4_piecesOf_0 := by decide +kernel
theorem dksX4_piecesOf_1 : cX4_piecesOf.data.toList.drop 23 = dktX4_piecesOf_1 := dk_seg dksX4_piecesOf_0 23 rfl rfl
theorem dX4_piecesOf_0 : decode cX4_piecesOf 0 = .ok (.iconst 0, 1) := dk_3 (dk_at dksX4_piecesOf_0 0 rfl rfl)
theorem dX4_piecesOf_1 : decode cX4_piecesOf 1 = .ok (.istore_n 2, 1) := dk_61 (dk_at dksX4_piecesOf_0 1 rfl rfl)
theorem dX4_piecesOf_2 : decode cX4_piecesOf 2 = .ok (.iconst 0, 1) := dk_3 (dk_at dksX4_piecesOf_0 2 rfl rfl)
theorem dX4_piecesOf_3 : decode cX4_piecesOf 3 = .ok (.istore_n 3, 1) := dk_62 (dk_at dksX4_piecesOf_0 3 rfl rfl)
theorem dX4_piecesOf_4 : decode cX4_piecesOf 4 = .ok (.iload_n 3, 1) := dk_29 (dk_at dksX4_piecesOf_0 4 rfl rfl)
theorem dX4_piecesOf_5 : decode cX4_piecesOf 5 = .ok (.aload_n 0, 1) := dk_42 (dk_at dksX4_piecesOf_0 5 rfl rfl)
theorem dX4_piecesOf_6 : decode cX4_piecesOf 6 = .ok (.getfield 7, 3) := dk_180 0 7 (dk_at dksX4_piecesOf_0 6 rfl rfl)
theorem dX4_piecesOf_9 : decode cX4_piecesOf 9 = .ok (.iconst 0, 1) := dk_3 (dk_at dksX4_piecesOf_0 9 rfl rfl)
theorem dX4_piecesOf_10 : decode cX4_piecesOf 10 = .ok (.iaload, 1) := dk_46 (dk_at dksX4_piecesOf_0 10 rfl rfl)
theorem dX4_piecesOf_11 : decode cX4_piecesOf 11 = .ok (.if_icmp .ge 18, 3) := dk_162 0 18 (dk_at dksX4_piecesOf_0 11 rfl rfl)
theorem dX4_piecesOf_14 : decode cX4_piecesOf 14 = .ok (.iload_n 2, 1) := dk_28 (dk_at dksX4_piecesOf_0 14 rfl rfl)
theorem dX4_piecesOf_15 : decode cX4_piecesOf 15 = .ok (.aload_n 0, 1) := dk_42 (dk_at dksX4_piecesOf_0 15 rfl rfl)
theorem dX4_piecesOf_16 : decode cX4_piecesOf 16 = .ok (.iload_n 1, 1) := dk_27 (dk_at dksX4_piecesOf_0 16 rfl rfl)
theorem dX4_piecesOf_17 : decode cX4_piecesOf 17 = .ok (.iload_n 3, 1) := dk_29 (dk_at dksX4_piecesOf_0 17 rfl rfl)
theorem dX4_piecesOf_18 : decode cX4_piecesOf 18 = .ok (.invokevirtual 72, 3) := dk_182 0 72 (dk_at dksX4_piecesOf_0 18 rfl rfl)
theorem dX4_piecesOf_21 : decode cX4_piecesOf 21 = .ok (.iadd, 1) := dk_96 (dk_at dksX4_piecesOf_0 21 rfl rfl)
theorem dX4_piecesOf_22 : decode cX4_piecesOf 22 = .ok (.istore_n 2, 1) := dk_61 (dk_at dksX4_piecesOf_0 22 rfl rfl)
theorem dX4_piecesOf_23 : decode cX4_piecesOf 23 = .ok (.iinc 3 1, 3) := dk_132 3 1 (dk_at dksX4_piecesOf_1 0 rfl rfl)
theorem dX4_piecesOf_26 : decode cX4_piecesOf 26 = .ok (.goto (-22), 3) := dk_167 255 234 (dk_at dksX4_piecesOf_1 3 rfl rfl)
theorem dX4_piecesOf_29 : decode cX4_piecesOf 29 = .ok (.iload_n 2, 1) := dk_28 (dk_at dksX4_piecesOf_1 6 rfl rfl)
theorem dX4_piecesOf_30 : decode cX4_piecesOf 30 = .ok (.ireturn, 1) := dk_172 (dk_at dksX4_piecesOf_1 7 rfl rfl)
def dkwX4_mustOf_3 : List UInt8 := [21, 6, 28, 160, 0, 6, 21, 7, 172, 21, 4, 21, 7, 100, 54, 4, 132, 5, 1, 167, 255, 173, 3, 172]
abbrev dktX4_mustOf_3 : List UInt8 := dkwX4_mustOf_3 ++ []
def dkwX4_mustOf_2 : List UInt8 := [21, 6, 182, 0, 72, 21, 4, 162, 0, 13, 42, 27, 21, 6, 182, 0, 72, 167, 0, 5, 21, 4, 54, 7]
abbrev dktX4_mustOf_2 : List UInt8 := dkwX4_mustOf_2 ++ dktX4_mustOf_3
def dkwX4_mustOf_1 : List UInt8 := [154, 0, 8, 21, 5, 167, 0, 14, 42, 180, 0, 7, 3, 46, 4, 100, 21, 5, 100, 54, 6, 42, 27]
abbrev dktX4_mustOf_1 : List UInt8 := dkwX4_mustOf_1 ++ dktX4_mustOf_2
def dkwX4_mustOf_0 : List UInt8 := [29, 54, 4, 3, 54, 5, 21, 5, 42, 180, 0, 7, 3, 46, 162, 0, 78, 42, 27, 7, 182, 0, 175]
abbrev dktX4_mustOf_0 : List UInt8 := dkwX4_mustOf_0 ++ dktX4_mustOf_1
theorem dksX4_mustOf_0 : cX4_mustOf.data.toList.drop 0 = dktX4_mustOf_0 := by decide +kernel
theorem dksX4_mustOf_1 : cX4_mustOf.data.toList.drop 23 = dktX4_mustOf_1 := dk_seg dksX4_mustOf_0 23 rfl rfl
theorem dksX4_mustOf_2 : cX4_mustOf.data.toList.drop 46 = dktX4_mustOf_2 := dk_seg dksX4_mustOf_1 23 rfl rfl
theorem dksX4_mustOf_3 : cX4_mustOf.data.toList.drop 70 = dktX4_mustOf_3 := dk_seg dksX4_mustOf_2 24 rfl rfl
theorem dX4_mustOf_0 : decode cX4_mustOf 0 = .ok (.iload_n 3, 1) := dk_29 (dk_at dksX4_mustOf_0 0 rfl rfl)
theorem dX4_mustOf_1 : decode cX4_mustOf 1 = .ok (.istore 4, 2) := dk_54 4 (dk_at dksX4_mustOf_0 1 rfl rfl)
theorem dX4_mustOf_3 : decode cX4_mustOf 3 = .ok (.iconst 0, 1) := dk_3 (dk_at dksX4_mustOf_0 3 rfl rfl)
theorem dX4_mustOf_4 : decode cX4_mustOf 4 = .ok (.istore 5, 2) := dk_54 5 (dk_at dksX4_mustOf_0 4 rfl rfl)
theorem dX4_mustOf_6 : decode cX4_mustOf 6 = .ok (.iload 5, 2) := dk_21 5 (dk_at dksX4_mustOf_0 6 rfl rfl)
theorem dX4_mustOf_8 : decode cX4_mustOf 8 = .ok (.aload_n 0, 1) := dk_42 (dk_at dksX4_mustOf_0 8 rfl rfl)
theorem dX4_mustOf_9 : decode cX4_mustOf 9 = .ok (.getfield 7, 3) := dk_180 0 7 (dk_at dksX4_mustOf_0 9 rfl rfl)
theorem dX4_mustOf_12 : decode cX4_mustOf 12 = .ok (.iconst 0, 1) := dk_3 (dk_at dksX4_mustOf_0 12 rfl rfl)
theorem dX4_mustOf_13 : decode cX4_mustOf 13 = .ok (.iaload, 1) := dk_46 (dk_at dksX4_mustOf_0 13 rfl rfl)
theorem dX4_mustOf_14 : decode cX4_mustOf 14 = .ok (.if_icmp .ge 78, 3) := dk_162 0 78 (dk_at dksX4_mustOf_0 14 rfl rfl)
theorem dX4_mustOf_17 : decode cX4_mustOf 17 = .ok (.aload_n 0, 1) := dk_42 (dk_at dksX4_mustOf_0 17 rfl rfl)
theorem dX4_mustOf_18 : decode cX4_mustOf 18 = .ok (.iload_n 1, 1) := dk_27 (dk_at dksX4_mustOf_0 18 rfl rfl)
theorem dX4_mustOf_19 : decode cX4_mustOf 19 = .ok (.iconst 4, 1) := dk_7 (dk_at dksX4_mustOf_0 19 rfl rfl)
theorem dX4_mustOf_20 : decode cX4_mustOf 20 = .ok (.invokevirtual 175, 3) := dk_182 0 175 (dk_at dksX4_mustOf_0 20 rfl rfl)
theorem dX4_mustOf_23 : decode cX4_mustOf 23 = .ok (.ifCond .ne 8, 3) := dk_154 0 8 (dk_at dksX4_mustOf_1 0 rfl rfl)
theorem dX4_mustOf_26 : decode cX4_mustOf 26 = .ok (.iload 5, 2) := dk_21 5 (dk_at dksX4_mustOf_1 3 rfl rfl)
theorem dX4_mustOf_28 : decode cX4_mustOf 28 = .ok (.goto 14, 3) := dk_167 0 14 (dk_at dksX4_mustOf_1 5 rfl rfl)
theorem dX4_mustOf_31 : decode cX4_mustOf 31 = .ok (.aload_n 0, 1) := dk_42 (dk_at dksX4_mustOf_1 8 rfl rfl)
theorem dX4_mustOf_32 : decode cX4_mustOf 32 = .ok (.getfield 7, 3) := dk_180 0 7 (dk_at dksX4_mustOf_1 9 rfl rfl)
theorem dX4_mustOf_35 : decode cX4_mustOf 35 = .ok (.iconst 0, 1) := dk_3 (dk_at dksX4_mustOf_1 12 rfl rfl)
theorem dX4_mustOf_36 : decode cX4_mustOf 36 = .ok (.iaload, 1) := dk_46 (dk_at dksX4_mustOf_1 13 rfl rfl)
theorem dX4_mustOf_37 : decode cX4_mustOf 37 = .ok (.iconst 1, 1) := dk_4 (dk_at dksX4_mustOf_1 14 rfl rfl)
theorem dX4_mustOf_38 : decode cX4_mustOf 38 = .ok (.isub, 1) := dk_100 (dk_at dksX4_mustOf_1 15 rfl rfl)
theorem dX4_mustOf_39 : decode cX4_mustOf 39 = .ok (.iload 5, 2) := dk_21 5 (dk_at dksX4_mustOf_1 16 rfl rfl)
theorem dX4_mustOf_41 : decode cX4_mustOf 41 = .ok (.isub, 1) := dk_100 (dk_at dksX4_mustOf_1 18 rfl rfl)
theorem dX4_mustOf_42 : decode cX4_mustOf 42 = .ok (.istore 6, 2) := dk_54 6 (dk_at dksX4_mustOf_1 19 rfl rfl)
theorem dX4_mustOf_44 : decode cX4_mustOf 44 = .ok (.aload_n 0, 1) := dk_42 (dk_at dksX4_mustOf_1 21 rfl rfl)
theorem dX4_mustOf_45 : decode cX4_mustOf 45 = .ok (.iload_n 1, 1) := dk_27 (dk_at dksX4_mustOf_1 22 rfl rfl)
theorem dX4_mustOf_46 : decode cX4_mustOf 46 = .ok (.iload 6, 2) := dk_21 6 (dk_at dksX4_mustOf_2 0 rfl rfl)
theorem dX4_mustOf_48 : decode cX4_mustOf 48 = .ok (.invokevirtual 72, 3) := dk_182 0 72 (dk_at dksX4_mustOf_2 2 rfl rfl)
theorem dX4_mustOf_51 : decode cX4_mustOf 51 = .ok (.iload 4, 2) := dk_21 4 (dk_at dksX4_mustOf_2 5 rfl rfl)
theorem dX4_mustOf_53 : decode cX4_mustOf 53 = .ok (.if_icmp .ge 13, 3) := dk_162 0 13 (dk_at dksX4_mustOf_2 7 rfl rfl)
theorem dX4_mustOf_56 : decode cX4_mustOf 56 = .ok (.aload_n 0, 1) := dk_42 (dk_at dksX4_mustOf_2 10 rfl rfl)
theorem dX4_mustOf_57 : decode cX4_mustOf 57 = .ok (.iload_n 1, 1) := dk_27 (dk_at dksX4_mustOf_2 11 rfl rfl)
theorem dX4_mustOf_58 : decode cX4_mustOf 58 = .ok (.iload 6, 2) := dk_21 6 (dk_at dksX4_mustOf_2 12 rfl rfl)
theorem dX4_mustOf_60 : decode cX4_mustOf 60 = .ok (.invokevirtual 72, 3) := dk_182 0 72 (dk_at dksX4_mustOf_2 14 rfl rfl)
theorem dX4_mustOf_63 : decode cX4_mustOf 63 = .ok (.goto 5, 3) := dk_167 0 5 (dk_at dksX4_mustOf_2 17 rfl rfl)
theorem dX4_mustOf_66 : decode cX4_mustOf 66 = .ok (.iload 4, 2) := dk_21 4 (dk_at dksX4_mustOf_2 20 rfl rfl)
theorem dX4_mustOf_68 : decode cX4_mustOf 68 = .ok (.istore 7, 2) := dk_54 7 (dk_at dksX4_mustOf_2 22 rfl rfl)
theorem dX4_mustOf_70 : decode cX4_mustOf 70 = .ok (.iload 6, 2) := dk_21 6 (dk_at dksX4_mustOf_3 0 rfl rfl)
theorem dX4_mustOf_72 : decode cX4_mustOf 72 = .ok (.iload_n 2, 1) := dk_28 (dk_at dksX4_mustOf_3 2 rfl rfl)
theorem dX4_mustOf_73 : decode cX4_mustOf 73 = .ok (.if_icmp .ne 6, 3) := dk_160 0 6 (dk_at dksX4_mustOf_3 3 rfl rfl)
theorem dX4_mustOf_76 : decode cX4_mustOf 76 = .ok (.iload 7, 2) := dk_21 7 (dk_at dksX4_mustOf_3 6 rfl rfl)
theorem dX4_mustOf_78 : decode cX4_mustOf 78 = .ok (.ireturn, 1) := dk_172 (dk_at dksX4_mustOf_3 8 rfl rfl)
theorem dX4_mustOf_79 : decode cX4_mustOf 79 = .ok (.iload 4, 2) := dk_21 4 (dk_at dksX4_mustOf_3 9 rfl rfl)
theorem dX4_mustOf_81 : decode cX4_mustOf 81 = .ok (.iload 7, 2) := dk_21 7 (dk_at dksX4_mustOf_3 11 rfl rfl)
theorem dX4_mustOf_83 : decode cX4_mustOf 83 = .ok (.isub, 1) := dk_100 (dk_at dksX4_mustOf_3 13 rfl rfl)
theorem dX4_mustOf_84 : decode cX4_mustOf 84 = .ok (.istore 4, 2) := dk_54 4 (dk_at dksX4_mustOf_3 14 rfl rfl)
theorem dX4_mustOf_86 : decode cX4_mustOf 86 = .ok (.iinc 5 1, 3) := dk_132 5 1 (dk_at dksX4_mustOf_3 16 rfl rfl)
theorem dX4_mustOf_89 : decode cX4_mustOf 89 = .ok (.goto (-83), 3) := dk_167 255 173 (dk_at dksX4_mustOf_3 19 rfl rfl)
theorem dX4_mustOf_92 : decode cX4_mustOf 92 = .ok (.iconst 0, 1) := dk_3 (dk_at dksX4_mustOf_3 22 rfl rfl)
theorem dX4_mustOf_93 : decode cX4_mustOf 93 = .ok (.ireturn, 1) := dk_172 (dk_at dksX4_mustOf_3 23 rfl rfl)
def dkwX4_capOf_1 : List UInt8 := [180, 0, 35, 167, 0, 4, 28, 172]
abbrev dktX4_capOf_1 : List UInt8 := dkwX4_capOf_1 ++ []
def dkwX4_capOf_0 : List UInt8 := [42, 27, 182, 0, 168, 61, 27, 42, 180, 0, 31, 160, 0, 18, 42, 180, 0, 35, 28, 162, 0, 10, 42]
abbrev dktX4_capOf_0 : List UInt8 := dkwX4_capOf_0 ++ dktX4_capOf_1
theorem dksX4_capOf_0 : cX4_capOf.data.toList.drop 0 = dktX4_capOf_0 := by decide +kernel
theorem dksX4_capOf_1 : cX4_capOf.data.toList.drop 23 = dktX4_capOf_1 := dk_seg dksX4_capOf_0 23 rfl rfl
theorem dX4_capOf_0 : decode cX4_capOf 0 = .ok (.aload_n 0, 1) := dk_42 (dk_at dksX4_capOf_0 0 rfl rfl)
theorem dX4_capOf_1 : decode cX4_capOf 1 = .ok (.iload_n 1, 1) := dk_27 (dk_at dksX4_capOf_0 1 rfl rfl)
theorem dX4_capOf_2 : decode cX4_capOf 2 = .ok (.invokevirtual 168, 3) := dk_182 0 168 (dk_at dksX4_capOf_0 2 rfl rfl)
theorem dX4_capOf_5 : decode cX4_capOf 5 = .ok (.istore_n 2, 1) := dk_61 (dk_at dksX4_capOf_0 5 rfl rfl)
theorem dX4_capOf_6 : decode cX4_capOf 6 = .ok (.iload_n 1, 1) := dk_27 (dk_at dksX4_capOf_0 6 rfl rfl)
theorem dX4_capOf_7 : decode cX4_capOf 7 = .ok (.aload_n 0, 1) := dk_42 (dk_at dksX4_capOf_0 7 rfl rfl)
theorem dX4_capOf_8 : decode cX4_capOf 8 = .ok (.getfield 31, 3) := dk_180 0 31 (dk_at dksX4_capOf_0 8 rfl rfl)
theorem dX4_capOf_11 : decode cX4_capOf 11 = .ok (.if_icmp .ne 18, 3) := dk_160 0 18 (dk_at dksX4_capOf_0 11 rfl rfl)
theorem dX4_capOf_14 : decode cX4_capOf 14 = .ok (.aload_n 0, 1) := dk_42 (dk_at dksX4_capOf_0 14 rfl rfl)
theorem dX4_capOf_15 : decode cX4_capOf 15 = .ok (.getfield 35, 3) := dk_180 0 35 (dk_at dksX4_capOf_0 15 rfl rfl)
theorem dX4_capOf_18 : decode cX4_capOf 18 = .ok (.iload_n 2, 1) := dk_28 (dk_at dksX4_capOf_0 18 rfl rfl)
theorem dX4_capOf_19 : decode cX4_capOf 19 = .ok (.if_icmp .ge 10, 3) := dk_162 0 10 (dk_at dksX4_capOf_0 19 rfl rfl)
theorem dX4_capOf_22 : decode cX4_capOf 22 = .ok (.aload_n 0, 1) := dk_42 (dk_at dksX4_capOf_0 22 rfl rfl)
theorem dX4_capOf_23 : decode cX4_capOf 23 = .ok (.getfield 35, 3) := dk_180 0 35 (dk_at dksX4_capOf_1 0 rfl rfl)
theorem dX4_capOf_26 : decode cX4_capOf 26 = .ok (.goto 4, 3) := dk_167 0 4 (dk_at dksX4_capOf_1 3 rfl rfl)
theorem dX4_capOf_29 : decode cX4_capOf 29 = .ok (.iload_n 2, 1) := dk_28 (dk_at dksX4_capOf_1 6 rfl rfl)
theorem dX4_capOf_30 : decode cX4_capOf 30 = .ok (.ireturn, 1) := dk_172 (dk_at dksX4_capOf_1 7 rfl rfl)
def dkwX4_capNow_3 : List UInt8 := [182, 0, 155, 61, 132, 4, 1, 167, 255, 192, 132, 3, 1, 167, 255, 178, 28, 172]
abbrev dktX4_capNow_3 : List UInt8 := dkwX4_capNow_3 ++ []
def dkwX4_capNow_2 : List UInt8 := [182, 0, 155, 27, 160, 0, 24, 42, 29, 21, 4, 5, 182, 0, 155, 28, 162, 0, 12, 42, 29, 21, 4, 5]
abbrev dktX4_capNow_2 : List UInt8 := dkwX4_capNow_2 ++ dktX4_capNow_3
def dkwX4_capNow_1 : List UInt8 := [29, 104, 96, 46, 162, 0, 53, 42, 29, 21, 4, 3, 182, 0, 155, 154, 0, 36, 42, 29, 21, 4, 4]
abbrev dktX4_capNow_1 : List UInt8 := dkwX4_capNow_1 ++ dktX4_capNow_2
def dkwX4_capNow_0 : List UInt8 := [17, 1, 104, 61, 3, 62, 29, 6, 162, 0, 79, 3, 54, 4, 21, 4, 42, 180, 0, 7, 16, 100, 16, 13]
abbrev dktX4_capNow_0 : List UInt8 := dkwX4_capNow_0 ++ dktX4_capNow_1
theorem dksX4_capNow_0 : cX4_capNow.data.toList.drop 0 = dktX4_capNow_0 := by decide +kernel
theorem dksX4_capNow_1 : cX4_capNow.data.toList.drop 24 = dktX4_capNow_1 := dk_seg dksX4_capNow_0 24 rfl rfl
theorem dksX4_capNow_2 : cX4_capNow.data.toList.drop 47 = dktX4_capNow_2 := dk_seg dksX4_capNow_1 23 rfl rfl
theorem dksX4_capNow_3 : cX4_capNow.data.toList.drop 71 = dktX4_capNow_3 := dk_seg dksX4_capNow_2 24 rfl rfl
theorem dX4_capNow_0 : decode cX4_capNow 0 = .ok (.sipush 360, 3) := dk_17 1 104 (dk_at dksX4_capNow_0 0 rfl rfl)
theorem dX4_capNow_3 : decode cX4_capNow 3 = .ok (.istore_n 2, 1) := dk_61 (dk_at dksX4_capNow_0 3 rfl rfl)
theorem dX4_capNow_4 : decode cX4_capNow 4 = .ok (.iconst 0, 1) := dk_3 (dk_at dksX4_capNow_0 4 rfl rfl)
theorem dX4_capNow_5 : decode cX4_capNow 5 = .ok (.istore_n 3, 1) := dk_62 (dk_at dksX4_capNow_0 5 rfl rfl)
theorem dX4_capNow_6 : decode cX4_capNow 6 = .ok (.iload_n 3, 1) := dk_29 (dk_at dksX4_capNow_0 6 rfl rfl)
theorem dX4_capNow_7 : decode cX4_capNow 7 = .ok (.iconst 3, 1) := dk_6 (dk_at dksX4_capNow_0 7 rfl rfl)
theorem dX4_capNow_8 : decode cX4_capNow 8 = .ok (.if_icmp .ge 79, 3) := dk_162 0 79 (dk_at dksX4_capNow_0 8 rfl rfl)
theorem dX4_capNow_11 : decode cX4_capNow 11 = .ok (.iconst 0, 1) := dk_3 (dk_at dksX4_capNow_0 11 rfl rfl)
theorem dX4_capNow_12 : decode cX4_capNow 12 = .ok (.istore 4, 2) := dk_54 4 (dk_at dksX4_capNow_0 12 rfl rfl)
theorem dX4_capNow_14 : decode cX4_capNow 14 = .ok (.iload 4, 2) := dk_21 4 (dk_at dksX4_capNow_0 14 rfl rfl)
theorem dX4_capNow_16 : decode cX4_capNow 16 = .ok (.aload_n 0, 1) := dk_42 (dk_at dksX4_capNow_0 16 rfl rfl)
theorem dX4_capNow_17 : decode cX4_capNow 17 = .ok (.getfield 7, 3) := dk_180 0 7 (dk_at dksX4_capNow_0 17 rfl rfl)
theorem dX4_capNow_20 : decode cX4_capNow 20 = .ok (.bipush 100, 2) := dk_16 100 (dk_at dksX4_capNow_0 20 rfl rfl)
theorem dX4_capNow_22 : decode cX4_capNow 22 = .ok (.bipush 13, 2) := dk_16 13 (dk_at dksX4_capNow_0 22 rfl rfl)
theorem dX4_capNow_24 : decode cX4_capNow 24 = .ok (.iload_n 3, 1) := dk_29 (dk_at dksX4_capNow_1 0 rfl rfl)
theorem dX4_capNow_25 : decode cX4_capNow 25 = .ok (.imul, 1) := dk_104 (dk_at dksX4_capNow_1 1 rfl rfl)
theorem dX4_capNow_26 : decode cX4_capNow 26 = .ok (.iadd, 1) := dk_96 (dk_at dksX4_capNow_1 2 rfl rfl)
theorem dX4_capNow_27 : decode cX4_capNow 27 = .ok (.iaload, 1) := dk_46 (dk_at dksX4_capNow_1 3 rfl rfl)
theorem dX4_capNow_28 : decode cX4_capNow 28 = .ok (.if_icmp .ge 53, 3) := dk_162 0 53 (dk_at dksX4_capNow_1 4 rfl rfl)
theorem dX4_capNow_31 : decode cX4_capNow 31 = .ok (.aload_n 0, 1) := dk_42 (dk_at dksX4_capNow_1 7 rfl rfl)
theorem dX4_capNow_32 : decode cX4_capNow 32 = .ok (.iload_n 3, 1) := dk_29 (dk_at dksX4_capNow_1 8 rfl rfl)
theorem dX4_capNow_33 : decode cX4_capNow 33 = .ok (.iload 4, 2) := dk_21 4 (dk_at dksX4_capNow_1 9 rfl rfl)
theorem dX4_capNow_35 : decode cX4_capNow 35 = .ok (.iconst 0, 1) := dk_3 (dk_at dksX4_capNow_1 11 rfl rfl)
theorem dX4_capNow_36 : decode cX4_capNow 36 = .ok (.invokevirtual 155, 3) := dk_182 0 155 (dk_at dksX4_capNow_1 12 rfl rfl)
theorem dX4_capNow_39 : decode cX4_capNow 39 = .ok (.ifCond .ne 36, 3) := dk_154 0 36 (dk_at dksX4_capNow_1 15 rfl rfl)
theorem dX4_capNow_42 : decode cX4_capNow 42 = .ok (.aload_n 0, 1) := dk_42 (dk_at dksX4_capNow_1 18 rfl rfl)
theorem dX4_capNow_43 : decode cX4_capNow 43 = .ok (.iload_n 3, 1) := dk_29 (dk_at dksX4_capNow_1 19 rfl rfl)
theorem dX4_capNow_44 : decode cX4_capNow 44 = .ok (.iload 4, 2) := dk_21 4 (dk_at dksX4_capNow_1 20 rfl rfl)
theorem dX4_capNow_46 : decode cX4_capNow 46 = .ok (.iconst 1, 1) := dk_4 (dk_at dksX4_capNow_1 22 rfl rfl)
theorem dX4_capNow_47 : decode cX4_capNow 47 = .ok (.invokevirtual 155, 3) := dk_182 0 155 (dk_at dksX4_capNow_2 0 rfl rfl)
theorem dX4_capNow_50 : decode cX4_capNow 50 = .ok (.iload_n 1, 1) := dk_27 (dk_at dksX4_capNow_2 3 rfl rfl)
theorem dX4_capNow_51 : decode cX4_capNow 51 = .ok (.if_icmp .ne 24, 3) := dk_160 0 24 (dk_at dksX4_capNow_2 4 rfl rfl)
theorem dX4_capNow_54 : decode cX4_capNow 54 = .ok (.aload_n 0, 1) := dk_42 (dk_at dksX4_capNow_2 7 rfl rfl)
theorem dX4_capNow_55 : decode cX4_capNow 55 = .ok (.iload_n 3, 1) := dk_29 (dk_at dksX4_capNow_2 8 rfl rfl)
theorem dX4_capNow_56 : decode cX4_capNow 56 = .ok (.iload 4, 2) := dk_21 4 (dk_at dksX4_capNow_2 9 rfl rfl)
theorem dX4_capNow_58 : decode cX4_capNow 58 = .ok (.iconst 2, 1) := dk_5 (dk_at dksX4_capNow_2 11 rfl rfl)
theorem dX4_capNow_59 : decode cX4_capNow 59 = .ok (.invokevirtual 155, 3) := dk_182 0 155 (dk_at dksX4_capNow_2 12 rfl rfl)
theorem dX4_capNow_62 : decode cX4_capNow 62 = .ok (.iload_n 2, 1) := dk_28 (dk_at dksX4_capNow_2 15 rfl rfl)
theorem dX4_capNow_63 : decode cX4_capNow 63 = .ok (.if_icmp .ge 12, 3) := dk_162 0 12 (dk_at dksX4_capNow_2 16 rfl rfl)
theorem dX4_capNow_66 : decode cX4_capNow 66 = .ok (.aload_n 0, 1) := dk_42 (dk_at dksX4_capNow_2 19 rfl rfl)
theorem dX4_capNow_67 : decode cX4_capNow 67 = .ok (.iload_n 3, 1) := dk_29 (dk_at dksX4_capNow_2 20 rfl rfl)
theorem dX4_capNow_68 : decode cX4_capNow 68 = .ok (.iload 4, 2) := dk_21 4 (dk_at dksX4_capNow_2 21 rfl rfl)
theorem dX4_capNow_70 : decode cX4_capNow 70 = .ok (.iconst 2, 1) := dk_5 (dk_at dksX4_capNow_2 23 rfl rfl)
theorem dX4_capNow_71 : decode cX4_capNow 71 = .ok (.invokevirtual 155, 3) := dk_182 0 155 (dk_at dksX4_capNow_3 0 rfl rfl)
theorem dX4_capNow_74 : decode cX4_capNow 74 = .ok (.istore_n 2, 1) := dk_61 (dk_at dksX4_capNow_3 3 rfl rfl)
theorem dX4_capNow_75 : decode cX4_capNow 75 = .ok (.iinc 4 1, 3) := dk_132 4 1 (dk_at dksX4_capNow_3 4 rfl rfl)
theorem dX4_capNow_78 : decode cX4_capNow 78 = .ok (.goto (-64), 3) := dk_167 255 192 (dk_at dksX4_capNow_3 7 rfl rfl)
theorem dX4_capNow_81 : decode cX4_capNow 81 = .ok (.iinc 3 1, 3) := dk_132 3 1 (dk_at dksX4_capNow_3 10 rfl rfl)
theorem dX4_capNow_84 : decode cX4_capNow 84 = .ok (.goto (-78), 3) := dk_167 255 178 (dk_at dksX4_capNow_3 13 rfl rfl)
theorem dX4_capNow_87 : decode cX4_capNow 87 = .ok (.iload_n 2, 1) := dk_28 (dk_at dksX4_capNow_3 16 rfl rfl)
theorem dX4_capNow_88 : decode cX4_capNow 88 = .ok (.ireturn, 1) := dk_172 (dk_at dksX4_capNow_3 17 rfl rfl)
def dkwX4_told_3 : List UInt8 := [46, 96, 42, 180, 0, 22, 6, 46, 96, 172]
abbrev dktX4_told_3 : List UInt8 := dkwX4_told_3 ++ []
def dkwX4_told_2 : List UInt8 := [184, 0, 231, 167, 0, 30, 42, 180, 0, 22, 3, 46, 42, 180, 0, 22, 4, 46, 96, 42, 180, 0, 22, 5]
abbrev dktX4_told_2 : List UInt8 := dkwX4_told_2 ++ dktX4_told_3
def dkwX4_told_1 : List UInt8 := [27, 8, 160, 0, 10, 42, 182, 0, 227, 167, 0, 46, 27, 16, 6, 160, 0, 13, 42, 180, 0, 184]
abbrev dktX4_told_1 : List UInt8 := dkwX4_told_1 ++ dktX4_told_2
def dkwX4_told_0 : List UInt8 := [27, 7, 162, 0, 10, 42, 180, 0, 22, 27, 46, 172, 27, 7, 160, 0, 10, 42, 180, 0, 184, 167, 0, 58]
abbrev dktX4_told_0 : List UInt8 := dkwX4_told_0 ++ dktX4_told_1
theorem dksX4_told_0 : cX4_told.data.toList.drop 0 = dktX4_told_0 := by decide +kernel
theorem dksX4_told_1 : cX4_told.data.toList.drop 24 = dktX4_told_1 := dk_seg dksX4_told_0 24 rfl rfl
theorem dksX4_told_2 : cX4_told.data.toList.drop 46 = dktX4_told_2 := dk_seg dksX4_told_1 22 rfl rfl
theorem dksX4_told_3 : cX4_told.data.toList.drop 70 = dktX4_told_3 := dk_seg dksX4_told_2 24 rfl rfl
theorem dX4_told_0 : decode cX4_told 0 = .ok (.iload_n 1, 1) := dk_27 (dk_at dksX4_told_0 0 rfl rfl)
theorem dX4_told_1 : decode cX4_told 1 = .ok (.iconst 4, 1) := dk_7 (dk_at dksX4_told_0 1 rfl rfl)
theorem dX4_told_2 : decode cX4_told 2 = .ok (.if_icmp .ge 10, 3) := dk_162 0 10 (dk_at dksX4_told_0 2 rfl rfl)
theorem dX4_told_5 : decode cX4_told 5 = .ok (.aload_n 0, 1) := dk_42 (dk_at dksX4_told_0 5 rfl rfl)
theorem dX4_told_6 : decode cX4_told 6 = .ok (.getfield 22, 3) := dk_180 0 22 (dk_at dksX4_told_0 6 rfl rfl)
theorem dX4_told_9 : decode cX4_told 9 = .ok (.iload_n 1, 1) := dk_27 (dk_at dksX4_told_0 9 rfl rfl)
theorem dX4_told_10 : decode cX4_told 10 = .ok (.iaload, 1) := dk_46 (dk_at dksX4_told_0 10 rfl rfl)
theorem dX4_told_11 : decode cX4_told 11 = .ok (.ireturn, 1) := dk_172 (dk_at dksX4_told_0 11 rfl rfl)
theorem dX4_told_12 : decode cX4_told 12 = .ok (.iload_n 1, 1) := dk_27 (dk_at dksX4_told_0 12 rfl rfl)
theorem dX4_told_13 : decode cX4_told 13 = .ok (.iconst 4, 1) := dk_7 (dk_at dksX4_told_0 13 rfl rfl)
theorem dX4_told_14 : decode cX4_told 14 = .ok (.if_icmp .ne 10, 3) := dk_160 0 10 (dk_at dksX4_told_0 14 rfl rfl)
theorem dX4_told_17 : decode cX4_told 17 = .ok (.aload_n 0, 1) := dk_42 (dk_at dksX4_told_0 17 rfl rfl)
theorem dX4_told_18 : decode cX4_told 18 = .ok (.getfield 184, 3) := dk_180 0 184 (dk_at dksX4_told_0 18 rfl rfl)
theorem dX4_told_21 : decode cX4_told 21 = .ok (.goto 58, 3) := dk_167 0 58 (dk_at dksX4_told_0 21 rfl rfl)
theorem dX4_told_24 : decode cX4_told 24 = .ok (.iload_n 1, 1) := dk_27 (dk_at dksX4_told_1 0 rfl rfl)
theorem dX4_told_25 : decode cX4_told 25 = .ok (.iconst 5, 1) := dk_8 (dk_at dksX4_told_1 1 rfl rfl)
theorem dX4_told_26 : decode cX4_told 26 = .ok (.if_icmp .ne 10, 3) := dk_160 0 10 (dk_at dksX4_told_1 2 rfl rfl)
theorem dX4_told_29 : decode cX4_told 29 = .ok (.aload_n 0, 1) := dk_42 (dk_at dksX4_told_1 5 rfl rfl)
theorem dX4_told_30 : decode cX4_told 30 = .ok (.invokevirtual 227, 3) := dk_182 0 227 (dk_at dksX4_told_1 6 rfl rfl)
theorem dX4_told_33 : decode cX4_told 33 = .ok (.goto 46, 3) := dk_167 0 46 (dk_at dksX4_told_1 9 rfl rfl)
theorem dX4_told_36 : decode cX4_told 36 = .ok (.iload_n 1, 1) := dk_27 (dk_at dksX4_told_1 12 rfl rfl)
theorem dX4_told_37 : decode cX4_told 37 = .ok (.bipush 6, 2) := dk_16 6 (dk_at dksX4_told_1 13 rfl rfl)
theorem dX4_told_39 : decode cX4_told 39 = .ok (.if_icmp .ne 13, 3) := dk_160 0 13 (dk_at dksX4_told_1 15 rfl rfl)
theorem dX4_told_42 : decode cX4_told 42 = .ok (.aload_n 0, 1) := dk_42 (dk_at dksX4_told_1 18 rfl rfl)
theorem dX4_told_43 : decode cX4_told 43 = .ok (.getfield 184, 3) := dk_180 0 184 (dk_at dksX4_told_1 19 rfl rfl)
theorem dX4_told_46 : decode cX4_told 46 = .ok (.invokestatic 231, 3) := dk_184 0 231 (dk_at dksX4_told_2 0 rfl rfl)
theorem dX4_told_49 : decode cX4_told 49 = .ok (.goto 30, 3) := dk_167 0 30 (dk_at dksX4_told_2 3 rfl rfl)
theorem dX4_told_52 : decode cX4_told 52 = .ok (.aload_n 0, 1) := dk_42 (dk_at dksX4_told_2 6 rfl rfl)
theorem dX4_told_53 : decode cX4_told 53 = .ok (.getfield 22, 3) := dk_180 0 22 (dk_at dksX4_told_2 7 rfl rfl)
theorem dX4_told_56 : decode cX4_told 56 = .ok (.iconst 0, 1) := dk_3 (dk_at dksX4_told_2 10 rfl rfl)
theorem dX4_told_57 : decode cX4_told 57 = .ok (.iaload, 1) := dk_46 (dk_at dksX4_told_2 11 rfl rfl)
theorem dX4_told_58 : decode cX4_told 58 = .ok (.aload_n 0, 1) := dk_42 (dk_at dksX4_told_2 12 rfl rfl)
theorem dX4_told_59 : decode cX4_told 59 = .ok (.getfield 22, 3) := dk_180 0 22 (dk_at dksX4_told_2 13 rfl rfl)
theorem dX4_told_62 : decode cX4_told 62 = .ok (.iconst 1, 1) := dk_4 (dk_at dksX4_told_2 16 rfl rfl)
theorem dX4_told_63 : decode cX4_told 63 = .ok (.iaload, 1) := dk_46 (dk_at dksX4_told_2 17 rfl rfl)
theorem dX4_told_64 : decode cX4_told 64 = .ok (.iadd, 1) := dk_96 (dk_at dksX4_told_2 18 rfl rfl)
theorem dX4_told_65 : decode cX4_told 65 = .ok (.aload_n 0, 1) := dk_42 (dk_at dksX4_told_2 19 rfl rfl)
theorem dX4_told_66 : decode cX4_told 66 = .ok (.getfield 22, 3) := dk_180 0 22 (dk_at dksX4_told_2 20 rfl rfl)
theorem dX4_told_69 : decode cX4_told 69 = .ok (.iconst 2, 1) := dk_5 (dk_at dksX4_told_2 23 rfl rfl)
theorem dX4_told_70 : decode cX4_told 70 = .ok (.iaload, 1) := dk_46 (dk_at dksX4_told_3 0 rfl rfl)
theorem dX4_told_71 : decode cX4_told 71 = .ok (.iadd, 1) := dk_96 (dk_at dksX4_told_3 1 rfl rfl)
theorem dX4_told_72 : decode cX4_told 72 = .ok (.aload_n 0, 1) := dk_42 (dk_at dksX4_told_3 2 rfl rfl)
theorem dX4_told_73 : decode cX4_told 73 = .ok (.getfield 22, 3) := dk_180 0 22 (dk_at dksX4_told_3 3 rfl rfl)
theorem dX4_told_76 : decode cX4_told 76 = .ok (.iconst 3, 1) := dk_6 (dk_at dksX4_told_3 6 rfl rfl)
theorem dX4_told_77 : decode cX4_told 77 = .ok (.iaload, 1) := dk_46 (dk_at dksX4_told_3 7 rfl rfl)
theorem dX4_told_78 : decode cX4_told 78 = .ok (.iadd, 1) := dk_96 (dk_at dksX4_told_3 8 rfl rfl)
theorem dX4_told_79 : decode cX4_told 79 = .ok (.ireturn, 1) := dk_172 (dk_at dksX4_told_3 9 rfl rfl)
def dkwX4_lost_2 : List UInt8 := [27, 172]
abbrev dktX4_lost_2 : List UInt8 := dkwX4_lost_2 ++ []
def dkwX4_lost_1 : List UInt8 := [182, 0, 178, 42, 28, 42, 180, 0, 22, 28, 46, 182, 0, 178, 100, 104, 96, 60, 132, 2, 1, 167, 255, 216]
abbrev dktX4_lost_1 : List UInt8 := dkwX4_lost_1 ++ dktX4_lost_2
def dkwX4_lost_0 : List UInt8 := [3, 60, 3, 61, 28, 42, 180, 0, 7, 3, 46, 162, 0, 36, 27, 42, 28, 182, 0, 205, 42, 28, 3]
abbrev dktX4_lost_0 : List UInt8 := dkwX4_lost_0 ++ dktX4_lost_1
theorem dksX4_lost_0 : cX4_lost.data.toList.drop 0 = dktX4_lost_0 := by decide +kernel
theorem dksX4_lost_1 : cX4_lost.data.toList.drop 23 = dktX4_lost_1 := dk_seg dksX4_lost_0 23 rfl rfl
theorem dksX4_lost_2 : cX4_lost.data.toList.drop 47 = dktX4_lost_2 := dk_seg dksX4_lost_1 24 rfl rfl
theorem dX4_lost_0 : decode cX4_lost 0 = .ok (.iconst 0, 1) := dk_3 (dk_at dksX4_lost_0 0 rfl rfl)
theorem dX4_lost_1 : decode cX4_lost 1 = .ok (.istore_n 1, 1) := dk_60 (dk_at dksX4_lost_0 1 rfl rfl)
theorem dX4_lost_2 : decode cX4_lost 2 = .ok (.iconst 0, 1) := dk_3 (dk_at dksX4_lost_0 2 rfl rfl)
theorem dX4_lost_3 : decode cX4_lost 3 = .ok (.istore_n 2, 1) := dk_61 (dk_at dksX4_lost_0 3 rfl rfl)
theorem dX4_lost_4 : decode cX4_lost 4 = .ok (.iload_n 2, 1) := dk_28 (dk_at dksX4_lost_0 4 rfl rfl)
theorem dX4_lost_5 : decode cX4_lost 5 = .ok (.aload_n 0, 1) := dk_42 (dk_at dksX4_lost_0 5 rfl rfl)
theorem dX4_lost_6 : decode cX4_lost 6 = .ok (.getfield 7, 3) := dk_180 0 7 (dk_at dksX4_lost_0 6 rfl rfl)
theorem dX4_lost_9 : decode cX4_lost 9 = .ok (.iconst 0, 1) := dk_3 (dk_at dksX4_lost_0 9 rfl rfl)
theorem dX4_lost_10 : decode cX4_lost 10 = .ok (.iaload, 1) := dk_46 (dk_at dksX4_lost_0 10 rfl rfl)
theorem dX4_lost_11 : decode cX4_lost 11 = .ok (.if_icmp .ge 36, 3) := dk_162 0 36 (dk_at dksX4_lost_0 11 rfl rfl)
theorem dX4_lost_14 : decode cX4_lost 14 = .ok (.iload_n 1, 1) := dk_27 (dk_at dksX4_lost_0 14 rfl rfl)
theorem dX4_lost_15 : decode cX4_lost 15 = .ok (.aload_n 0, 1) := dk_42 (dk_at dksX4_lost_0 15 rfl rfl)
theorem dX4_lost_16 : decode cX4_lost 16 = .ok (.iload_n 2, 1) := dk_28 (dk_at dksX4_lost_0 16 rfl rfl)
theorem dX4_lost_17 : decode cX4_lost 17 = .ok (.invokevirtual 205, 3) := dk_182 0 205 (dk_at dksX4_lost_0 17 rfl rfl)
theorem dX4_lost_20 : decode cX4_lost 20 = .ok (.aload_n 0, 1) := dk_42 (dk_at dksX4_lost_0 20 rfl rfl)
theorem dX4_lost_21 : decode cX4_lost 21 = .ok (.iload_n 2, 1) := dk_28 (dk_at dksX4_lost_0 21 rfl rfl)
theorem dX4_lost_22 : decode cX4_lost 22 = .ok (.iconst 0, 1) := dk_3 (dk_at dksX4_lost_0 22 rfl rfl)
theorem dX4_lost_23 : decode cX4_lost 23 = .ok (.invokevirtual 178, 3) := dk_182 0 178 (dk_at dksX4_lost_1 0 rfl rfl)
theorem dX4_lost_26 : decode cX4_lost 26 = .ok (.aload_n 0, 1) := dk_42 (dk_at dksX4_lost_1 3 rfl rfl)
theorem dX4_lost_27 : decode cX4_lost 27 = .ok (.iload_n 2, 1) := dk_28 (dk_at dksX4_lost_1 4 rfl rfl)
theorem dX4_lost_28 : decode cX4_lost 28 = .ok (.aload_n 0, 1) := dk_42 (dk_at dksX4_lost_1 5 rfl rfl)
theorem dX4_lost_29 : decode cX4_lost 29 = .ok (.getfield 22, 3) := dk_180 0 22 (dk_at dksX4_lost_1 6 rfl rfl)
theorem dX4_lost_32 : decode cX4_lost 32 = .ok (.iload_n 2, 1) := dk_28 (dk_at dksX4_lost_1 9 rfl rfl)
theorem dX4_lost_33 : decode cX4_lost 33 = .ok (.iaload, 1) := dk_46 (dk_at dksX4_lost_1 10 rfl rfl)
theorem dX4_lost_34 : decode cX4_lost 34 = .ok (.invokevirtual 178, 3) := dk_182 0 178 (dk_at dksX4_lost_1 11 rfl rfl)
theorem dX4_lost_37 : decode cX4_lost 37 = .ok (.isub, 1) := dk_100 (dk_at dksX4_lost_1 14 rfl rfl)
theorem dX4_lost_38 : decode cX4_lost 38 = .ok (.imul, 1) := dk_104 (dk_at dksX4_lost_1 15 rfl rfl)
theorem dX4_lost_39 : decode cX4_lost 39 = .ok (.iadd, 1) := dk_96 (dk_at dksX4_lost_1 16 rfl rfl)
theorem dX4_lost_40 : decode cX4_lost 40 = .ok (.istore_n 1, 1) := dk_60 (dk_at dksX4_lost_1 17 rfl rfl)
theorem dX4_lost_41 : decode cX4_lost 41 = .ok (.iinc 2 1, 3) := dk_132 2 1 (dk_at dksX4_lost_1 18 rfl rfl)
theorem dX4_lost_44 : decode cX4_lost 44 = .ok (.goto (-40), 3) := dk_167 255 216 (dk_at dksX4_lost_1 21 rfl rfl)
theorem dX4_lost_47 : decode cX4_lost 47 = .ok (.iload_n 1, 1) := dk_27 (dk_at dksX4_lost_2 0 rfl rfl)
theorem dX4_lost_48 : decode cX4_lost 48 = .ok (.ireturn, 1) := dk_172 (dk_at dksX4_lost_2 1 rfl rfl)
def dkwX4_heldOf_1 : List UInt8 := [132, 3, 1, 167, 255, 234, 28, 172]
abbrev dktX4_heldOf_1 : List UInt8 := dkwX4_heldOf_1 ++ []
def dkwX4_heldOf_0 : List UInt8 := [3, 61, 3, 62, 29, 42, 180, 0, 7, 4, 46, 162, 0, 18, 28, 42, 29, 27, 182, 0, 72, 96, 61]
abbrev dktX4_heldOf_0 : List UInt8 := dkwX4_heldOf_0 ++ dktX4_heldOf_1
theorem dksX4_heldOf_0 : cX4_heldOf.data.toList.drop 0 = dktX4_heldOf_0 := by decide +kernel
theorem dksX4_heldOf_1 : cX4_heldOf.data.toList.drop 23 = dktX4_heldOf_1 := dk_seg dksX4_heldOf_0 23 rfl rfl
theorem dX4_heldOf_0 : decode cX4_heldOf 0 = .ok (.iconst 0, 1) := dk_3 (dk_at dksX4_heldOf_0 0 rfl rfl)
theorem dX4_heldOf_1 : decode cX4_heldOf 1 = .ok (.istore_n 2, 1) := dk_61 (dk_at dksX4_heldOf_0 1 rfl rfl)
theorem dX4_heldOf_2 : decode cX4_heldOf 2 = .ok (.iconst 0, 1) := dk_3 (dk_at dksX4_heldOf_0 2 rfl rfl)
theorem dX4_heldOf_3 : decode cX4_heldOf 3 = .ok (.istore_n 3, 1) := dk_62 (dk_at dksX4_heldOf_0 3 rfl rfl)
theorem dX4_heldOf_4 : decode cX4_heldOf 4 = .ok (.iload_n 3, 1) := dk_29 (dk_at dksX4_heldOf_0 4 rfl rfl)
theorem dX4_heldOf_5 : decode cX4_heldOf 5 = .ok (.aload_n 0, 1) := dk_42 (dk_at dksX4_heldOf_0 5 rfl rfl)
theorem dX4_heldOf_6 : decode cX4_heldOf 6 = .ok (.getfield 7, 3) := dk_180 0 7 (dk_at dksX4_heldOf_0 6 rfl rfl)
theorem dX4_heldOf_9 : decode cX4_heldOf 9 = .ok (.iconst 1, 1) := dk_4 (dk_at dksX4_heldOf_0 9 rfl rfl)
theorem dX4_heldOf_10 : decode cX4_heldOf 10 = .ok (.iaload, 1) := dk_46 (dk_at dksX4_heldOf_0 10 rfl rfl)
theorem dX4_heldOf_11 : decode cX4_heldOf 11 = .ok (.if_icmp .ge 18, 3) := dk_162 0 18 (dk_at dksX4_heldOf_0 11 rfl rfl)
theorem dX4_heldOf_14 : decode cX4_heldOf 14 = .ok (.iload_n 2, 1) := dk_28 (dk_at dksX4_heldOf_0 14 rfl rfl)
theorem dX4_heldOf_15 : decode cX4_heldOf 15 = .ok (.aload_n 0, 1) := dk_42 (dk_at dksX4_heldOf_0 15 rfl rfl)
theorem dX4_heldOf_16 : decode cX4_heldOf 16 = .ok (.iload_n 3, 1) := dk_29 (dk_at dksX4_heldOf_0 16 rfl rfl)
theorem dX4_heldOf_17 : decode cX4_heldOf 17 = .ok (.iload_n 1, 1) := dk_27 (dk_at dksX4_heldOf_0 17 rfl rfl)
theorem dX4_heldOf_18 : decode cX4_heldOf 18 = .ok (.invokevirtual 72, 3) := dk_182 0 72 (dk_at dksX4_heldOf_0 18 rfl rfl)
theorem dX4_heldOf_21 : decode cX4_heldOf 21 = .ok (.iadd, 1) := dk_96 (dk_at dksX4_heldOf_0 21 rfl rfl)
theorem dX4_heldOf_22 : decode cX4_heldOf 22 = .ok (.istore_n 2, 1) := dk_61 (dk_at dksX4_heldOf_0 22 rfl rfl)
theorem dX4_heldOf_23 : decode cX4_heldOf 23 = .ok (.iinc 3 1, 3) := dk_132 3 1 (dk_at dksX4_heldOf_1 0 rfl rfl)
theorem dX4_heldOf_26 : decode cX4_heldOf 26 = .ok (.goto (-22), 3) := dk_167 255 234 (dk_at dksX4_heldOf_1 3 rfl rfl)
theorem dX4_heldOf_29 : decode cX4_heldOf 29 = .ok (.iload_n 2, 1) := dk_28 (dk_at dksX4_heldOf_1 6 rfl rfl)
theorem dX4_heldOf_30 : decode cX4_heldOf 30 = .ok (.ireturn, 1) := dk_172 (dk_at dksX4_heldOf_1 7 rfl rfl)
def dkwX4_bits_1 : List UInt8 := [27, 172]
abbrev dktX4_bits_1 : List UInt8 := dkwX4_bits_1 ++ []
def dkwX4_bits_0 : List UInt8 := [3, 60, 3, 61, 28, 16, 6, 162, 0, 17, 27, 26, 28, 122, 4, 126, 96, 60, 132, 2, 1, 167, 255, 239]
abbrev dktX4_bits_0 : List UInt8 := dkwX4_bits_0 ++ dktX4_bits_1
theorem dksX4_bits_0 : cX4_bits.data.toList.drop 0 = dktX4_bits_0 := by decide +kernel
theorem dksX4_bits_1 : cX4_bits.data.toList.drop 24 = dktX4_bits_1 := dk_seg dksX4_bits_0 24 rfl rfl
theorem dX4_bits_0 : decode cX4_bits 0 = .ok (.iconst 0, 1) := dk_3 (dk_at dksX4_bits_0 0 rfl rfl)
theorem dX4_bits_1 : decode cX4_bits 1 = .ok (.istore_n 1, 1) := dk_60 (dk_at dksX4_bits_0 1 rfl rfl)
theorem dX4_bits_2 : decode cX4_bits 2 = .ok (.iconst 0, 1) := dk_3 (dk_at dksX4_bits_0 2 rfl rfl)
theorem dX4_bits_3 : decode cX4_bits 3 = .ok (.istore_n 2, 1) := dk_61 (dk_at dksX4_bits_0 3 rfl rfl)
theorem dX4_bits_4 : decode cX4_bits 4 = .ok (.iload_n 2, 1) := dk_28 (dk_at dksX4_bits_0 4 rfl rfl)
theorem dX4_bits_5 : decode cX4_bits 5 = .ok (.bipush 6, 2) := dk_16 6 (dk_at dksX4_bits_0 5 rfl rfl)
theorem dX4_bits_7 : decode cX4_bits 7 = .ok (.if_icmp .ge 17, 3) := dk_162 0 17 (dk_at dksX4_bits_0 7 rfl rfl)
theorem dX4_bits_10 : decode cX4_bits 10 = .ok (.iload_n 1, 1) := dk_27 (dk_at dksX4_bits_0 10 rfl rfl)
theorem dX4_bits_11 : decode cX4_bits 11 = .ok (.iload_n 0, 1) := dk_26 (dk_at dksX4_bits_0 11 rfl rfl)
theorem dX4_bits_12 : decode cX4_bits 12 = .ok (.iload_n 2, 1) := dk_28 (dk_at dksX4_bits_0 12 rfl rfl)
theorem dX4_bits_13 : decode cX4_bits 13 = .ok (.ishr, 1) := dk_122 (dk_at dksX4_bits_0 13 rfl rfl)
theorem dX4_bits_14 : decode cX4_bits 14 = .ok (.iconst 1, 1) := dk_4 (dk_at dksX4_bits_0 14 rfl rfl)
theorem dX4_bits_15 : decode cX4_bits 15 = .ok (.iand, 1) := dk_126 (dk_at dksX4_bits_0 15 rfl rfl)
theorem dX4_bits_16 : decode cX4_bits 16 = .ok (.iadd, 1) := dk_96 (dk_at dksX4_bits_0 16 rfl rfl)
theorem dX4_bits_17 : decode cX4_bits 17 = .ok (.istore_n 1, 1) := dk_60 (dk_at dksX4_bits_0 17 rfl rfl)
theorem dX4_bits_18 : decode cX4_bits 18 = .ok (.iinc 2 1, 3) := dk_132 2 1 (dk_at dksX4_bits_0 18 rfl rfl)
theorem dX4_bits_21 : decode cX4_bits 21 = .ok (.goto (-17), 3) := dk_167 255 239 (dk_at dksX4_bits_0 21 rfl rfl)
theorem dX4_bits_24 : decode cX4_bits 24 = .ok (.iload_n 1, 1) := dk_27 (dk_at dksX4_bits_1 0 rfl rfl)
theorem dX4_bits_25 : decode cX4_bits 25 = .ok (.ireturn, 1) := dk_172 (dk_at dksX4_bits_1 1 rfl rfl)
def dkwX4_sellsBy_4 : List UInt8 := [132, 2, 1, 167, 255, 162, 177]
abbrev dktX4_sellsBy_4 : List UInt8 := dkwX4_sellsBy_4 ++ []
def dkwX4_sellsBy_3 : List UInt8 := [96, 42, 27, 3, 182, 0, 175, 29, 42, 180, 0, 47, 28, 46, 104, 96, 17, 39, 15, 184, 0, 246, 79]
abbrev dktX4_sellsBy_3 : List UInt8 := dkwX4_sellsBy_3 ++ dktX4_sellsBy_4
def dkwX4_sellsBy_2 : List UInt8 := [16, 40, 7, 27, 104, 96, 28, 96, 92, 46, 29, 100, 79, 42, 180, 0, 7, 16, 10, 8, 27, 104, 96, 3]
abbrev dktX4_sellsBy_2 : List UInt8 := dkwX4_sellsBy_2 ++ dktX4_sellsBy_3
def dkwX4_sellsBy_1 : List UInt8 := [180, 0, 44, 28, 46, 184, 0, 246, 62, 42, 180, 0, 44, 28, 92, 46, 29, 100, 79, 42, 180, 0, 7]
abbrev dktX4_sellsBy_1 : List UInt8 := dkwX4_sellsBy_1 ++ dktX4_sellsBy_2
def dkwX4_sellsBy_0 : List UInt8 := [3, 61, 28, 42, 180, 0, 7, 3, 46, 162, 0, 90, 42, 180, 0, 50, 7, 27, 104, 28, 96, 46, 42]
abbrev dktX4_sellsBy_0 : List UInt8 := dkwX4_sellsBy_0 ++ dktX4_sellsBy_1
theorem dksX4_sellsBy_0 : cX4_sellsBy.data.toList.drop 0 = dktX4_sellsBy_0 := by decide +kernel
theorem dksX4_sellsBy_1 : cX4_sellsBy.data.toList.drop 23 = dktX4_sellsBy_1 := dk_seg dksX4_sellsBy_0 23 rfl rfl
theorem dksX4_sellsBy_2 : cX4_sellsBy.data.toList.drop 46 = dktX4_sellsBy_2 := dk_seg dksX4_sellsBy_1 23 rfl rfl
theorem dksX4_sellsBy_3 : cX4_sellsBy.data.toList.drop 70 = dktX4_sellsBy_3 := dk_seg dksX4_sellsBy_2 24 rfl rfl
theorem dksX4_sellsBy_4 : cX4_sellsBy.data.toList.drop 93 = dktX4_sellsBy_4 := dk_seg dksX4_sellsBy_3 23 rfl rfl
theorem dX4_sellsBy_0 : decode cX4_sellsBy 0 = .ok (.iconst 0, 1) := dk_3 (dk_at dksX4_sellsBy_0 0 rfl rfl)
theorem dX4_sellsBy_1 : decode cX4_sellsBy 1 = .ok (.istore_n 2, 1) := dk_61 (dk_at dksX4_sellsBy_0 1 rfl rfl)
theorem dX4_sellsBy_2 : decode cX4_sellsBy 2 = .ok (.iload_n 2, 1) := dk_28 (dk_at dksX4_sellsBy_0 2 rfl rfl)
theorem dX4_sellsBy_3 : decode cX4_sellsBy 3 = .ok (.aload_n 0, 1) := dk_42 (dk_at dksX4_sellsBy_0 3 rfl rfl)
theorem dX4_sellsBy_4 : decode cX4_sellsBy 4 = .ok (.getfield 7, 3) := dk_180 0 7 (dk_at dksX4_sellsBy_0 4 rfl rfl)
theorem dX4_sellsBy_7 : decode cX4_sellsBy 7 = .ok (.iconst 0, 1) := dk_3 (dk_at dksX4_sellsBy_0 7 rfl rfl)
theorem dX4_sellsBy_8 : decode cX4_sellsBy 8 = .ok (.iaload, 1) := dk_46 (dk_at dksX4_sellsBy_0 8 rfl rfl)
theorem dX4_sellsBy_9 : decode cX4_sellsBy 9 = .ok (.if_icmp .ge 90, 3) := dk_162 0 90 (dk_at dksX4_sellsBy_0 9 rfl rfl)
theorem dX4_sellsBy_12 : decode cX4_sellsBy 12 = .ok (.aload_n 0, 1) := dk_42 (dk_at dksX4_sellsBy_0 12 rfl rfl)
theorem dX4_sellsBy_13 : decode cX4_sellsBy 13 = .ok (.getfield 50, 3) := dk_180 0 50 (dk_at dksX4_sellsBy_0 13 rfl rfl)
theorem dX4_sellsBy_16 : decode cX4_sellsBy 16 = .ok (.iconst 4, 1) := dk_7 (dk_at dksX4_sellsBy_0 16 rfl rfl)
theorem dX4_sellsBy_17 : decode cX4_sellsBy 17 = .ok (.iload_n 1, 1) := dk_27 (dk_at dksX4_sellsBy_0 17 rfl rfl)
theorem dX4_sellsBy_18 : decode cX4_sellsBy 18 = .ok (.imul, 1) := dk_104 (dk_at dksX4_sellsBy_0 18 rfl rfl)
theorem dX4_sellsBy_19 : decode cX4_sellsBy 19 = .ok (.iload_n 2, 1) := dk_28 (dk_at dksX4_sellsBy_0 19 rfl rfl)
theorem dX4_sellsBy_20 : decode cX4_sellsBy 20 = .ok (.iadd, 1) := dk_96 (dk_at dksX4_sellsBy_0 20 rfl rfl)
theorem dX4_sellsBy_21 : decode cX4_sellsBy 21 = .ok (.iaload, 1) := dk_46 (dk_at dksX4_sellsBy_0 21 rfl rfl)
theorem dX4_sellsBy_22 : decode cX4_sellsBy 22 = .ok (.aload_n 0, 1) := dk_42 (dk_at dksX4_sellsBy_0 22 rfl rfl)
theorem dX4_sellsBy_23 : decode cX4_sellsBy 23 = .ok (.getfield 44, 3) := dk_180 0 44 (dk_at dksX4_sellsBy_1 0 rfl rfl)
theorem dX4_sellsBy_26 : decode cX4_sellsBy 26 = .ok (.iload_n 2, 1) := dk_28 (dk_at dksX4_sellsBy_1 3 rfl rfl)
theorem dX4_sellsBy_27 : decode cX4_sellsBy 27 = .ok (.iaload, 1) := dk_46 (dk_at dksX4_sellsBy_1 4 rfl rfl)
theorem dX4_sellsBy_28 : decode cX4_sellsBy 28 = .ok (.invokestatic 246, 3) := dk_184 0 246 (dk_at dksX4_sellsBy_1 5 rfl rfl)
theorem dX4_sellsBy_31 : decode cX4_sellsBy 31 = .ok (.istore_n 3, 1) := dk_62 (dk_at dksX4_sellsBy_1 8 rfl rfl)
theorem dX4_sellsBy_32 : decode cX4_sellsBy 32 = .ok (.aload_n 0, 1) := dk_42 (dk_at dksX4_sellsBy_1 9 rfl rfl)
theorem dX4_sellsBy_33 : decode cX4_sellsBy 33 = .ok (.getfield 44, 3) := dk_180 0 44 (dk_at dksX4_sellsBy_1 10 rfl rfl)
theorem dX4_sellsBy_36 : decode cX4_sellsBy 36 = .ok (.iload_n 2, 1) := dk_28 (dk_at dksX4_sellsBy_1 13 rfl rfl)
theorem dX4_sellsBy_37 : decode cX4_sellsBy 37 = .ok (.dup2, 1) := dk_92 (dk_at dksX4_sellsBy_1 14 rfl rfl)
theorem dX4_sellsBy_38 : decode cX4_sellsBy 38 = .ok (.iaload, 1) := dk_46 (dk_at dksX4_sellsBy_1 15 rfl rfl)
theorem dX4_sellsBy_39 : decode cX4_sellsBy 39 = .ok (.iload_n 3, 1) := dk_29 (dk_at dksX4_sellsBy_1 16 rfl rfl)
theorem dX4_sellsBy_40 : decode cX4_sellsBy 40 = .ok (.isub, 1) := dk_100 (dk_at dksX4_sellsBy_1 17 rfl rfl)
theorem dX4_sellsBy_41 : decode cX4_sellsBy 41 = .ok (.iastore, 1) := dk_79 (dk_at dksX4_sellsBy_1 18 rfl rfl)
theorem dX4_sellsBy_42 : decode cX4_sellsBy 42 = .ok (.aload_n 0, 1) := dk_42 (dk_at dksX4_sellsBy_1 19 rfl rfl)
theorem dX4_sellsBy_43 : decode cX4_sellsBy 43 = .ok (.getfield 7, 3) := dk_180 0 7 (dk_at dksX4_sellsBy_1 20 rfl rfl)
theorem dX4_sellsBy_46 : decode cX4_sellsBy 46 = .ok (.bipush 40, 2) := dk_16 40 (dk_at dksX4_sellsBy_2 0 rfl rfl)
theorem dX4_sellsBy_48 : decode cX4_sellsBy 48 = .ok (.iconst 4, 1) := dk_7 (dk_at dksX4_sellsBy_2 2 rfl rfl)
theorem dX4_sellsBy_49 : decode cX4_sellsBy 49 = .ok (.iload_n 1, 1) := dk_27 (dk_at dksX4_sellsBy_2 3 rfl rfl)
theorem dX4_sellsBy_50 : decode cX4_sellsBy 50 = .ok (.imul, 1) := dk_104 (dk_at dksX4_sellsBy_2 4 rfl rfl)
theorem dX4_sellsBy_51 : decode cX4_sellsBy 51 = .ok (.iadd, 1) := dk_96 (dk_at dksX4_sellsBy_2 5 rfl rfl)
theorem dX4_sellsBy_52 : decode cX4_sellsBy 52 = .ok (.iload_n 2, 1) := dk_28 (dk_at dksX4_sellsBy_2 6 rfl rfl)
theorem dX4_sellsBy_53 : decode cX4_sellsBy 53 = .ok (.iadd, 1) := dk_96 (dk_at dksX4_sellsBy_2 7 rfl rfl)
theorem dX4_sellsBy_54 : decode cX4_sellsBy 54 = .ok (.dup2, 1) := dk_92 (dk_at dksX4_sellsBy_2 8 rfl rfl)
theorem dX4_sellsBy_55 : decode cX4_sellsBy 55 = .ok (.iaload, 1) := dk_46 (dk_at dksX4_sellsBy_2 9 rfl rfl)
theorem dX4_sellsBy_56 : decode cX4_sellsBy 56 = .ok (.iload_n 3, 1) := dk_29 (dk_at dksX4_sellsBy_2 10 rfl rfl)
theorem dX4_sellsBy_57 : decode cX4_sellsBy 57 = .ok (.isub, 1) := dk_100 (dk_at dksX4_sellsBy_2 11 rfl rfl)
theorem dX4_sellsBy_58 : decode cX4_sellsBy 58 = .ok (.iastore, 1) := dk_79 (dk_at dksX4_sellsBy_2 12 rfl rfl)
theorem dX4_sellsBy_59 : decode cX4_sellsBy 59 = .ok (.aload_n 0, 1) := dk_42 (dk_at dksX4_sellsBy_2 13 rfl rfl)
theorem dX4_sellsBy_60 : decode cX4_sellsBy 60 = .ok (.getfield 7, 3) := dk_180 0 7 (dk_at dksX4_sellsBy_2 14 rfl rfl)
theorem dX4_sellsBy_63 : decode cX4_sellsBy 63 = .ok (.bipush 10, 2) := dk_16 10 (dk_at dksX4_sellsBy_2 17 rfl rfl)
theorem dX4_sellsBy_65 : decode cX4_sellsBy 65 = .ok (.iconst 5, 1) := dk_8 (dk_at dksX4_sellsBy_2 19 rfl rfl)
theorem dX4_sellsBy_66 : decode cX4_sellsBy 66 = .ok (.iload_n 1, 1) := dk_27 (dk_at dksX4_sellsBy_2 20 rfl rfl)
theorem dX4_sellsBy_67 : decode cX4_sellsBy 67 = .ok (.imul, 1) := dk_104 (dk_at dksX4_sellsBy_2 21 rfl rfl)
theorem dX4_sellsBy_68 : decode cX4_sellsBy 68 = .ok (.iadd, 1) := dk_96 (dk_at dksX4_sellsBy_2 22 rfl rfl)
theorem dX4_sellsBy_69 : decode cX4_sellsBy 69 = .ok (.iconst 0, 1) := dk_3 (dk_at dksX4_sellsBy_2 23 rfl rfl)
theorem dX4_sellsBy_70 : decode cX4_sellsBy 70 = .ok (.iadd, 1) := dk_96 (dk_at dksX4_sellsBy_3 0 rfl rfl)
theorem dX4_sellsBy_71 : decode cX4_sellsBy 71 = .ok (.aload_n 0, 1) := dk_42 (dk_at dksX4_sellsBy_3 1 rfl rfl)
theorem dX4_sellsBy_72 : decode cX4_sellsBy 72 = .ok (.iload_n 1, 1) := dk_27 (dk_at dksX4_sellsBy_3 2 rfl rfl)
theorem dX4_sellsBy_73 : decode cX4_sellsBy 73 = .ok (.iconst 0, 1) := dk_3 (dk_at dksX4_sellsBy_3 3 rfl rfl)
theorem dX4_sellsBy_74 : decode cX4_sellsBy 74 = .ok (.invokevirtual 175, 3) := dk_182 0 175 (dk_at dksX4_sellsBy_3 4 rfl rfl)
theorem dX4_sellsBy_77 : decode cX4_sellsBy 77 = .ok (.iload_n 3, 1) := dk_29 (dk_at dksX4_sellsBy_3 7 rfl rfl)
theorem dX4_sellsBy_78 : decode cX4_sellsBy 78 = .ok (.aload_n 0, 1) := dk_42 (dk_at dksX4_sellsBy_3 8 rfl rfl)
theorem dX4_sellsBy_79 : decode cX4_sellsBy 79 = .ok (.getfield 47, 3) := dk_180 0 47 (dk_at dksX4_sellsBy_3 9 rfl rfl)
theorem dX4_sellsBy_82 : decode cX4_sellsBy 82 = .ok (.iload_n 2, 1) := dk_28 (dk_at dksX4_sellsBy_3 12 rfl rfl)
theorem dX4_sellsBy_83 : decode cX4_sellsBy 83 = .ok (.iaload, 1) := dk_46 (dk_at dksX4_sellsBy_3 13 rfl rfl)
theorem dX4_sellsBy_84 : decode cX4_sellsBy 84 = .ok (.imul, 1) := dk_104 (dk_at dksX4_sellsBy_3 14 rfl rfl)
theorem dX4_sellsBy_85 : decode cX4_sellsBy 85 = .ok (.iadd, 1) := dk_96 (dk_at dksX4_sellsBy_3 15 rfl rfl)
theorem dX4_sellsBy_86 : decode cX4_sellsBy 86 = .ok (.sipush 9999, 3) := dk_17 39 15 (dk_at dksX4_sellsBy_3 16 rfl rfl)
theorem dX4_sellsBy_89 : decode cX4_sellsBy 89 = .ok (.invokestatic 246, 3) := dk_184 0 246 (dk_at dksX4_sellsBy_3 19 rfl rfl)
theorem dX4_sellsBy_92 : decode cX4_sellsBy 92 = .ok (.iastore, 1) := dk_79 (dk_at dksX4_sellsBy_3 22 rfl rfl)
theorem dX4_sellsBy_93 : decode cX4_sellsBy 93 = .ok (.iinc 2 1, 3) := dk_132 2 1 (dk_at dksX4_sellsBy_4 0 rfl rfl)
theorem dX4_sellsBy_96 : decode cX4_sellsBy 96 = .ok (.goto (-94), 3) := dk_167 255 162 (dk_at dksX4_sellsBy_4 3 rfl rfl)
theorem dX4_sellsBy_99 : decode cX4_sellsBy 99 = .ok (.return_, 1) := dk_177 (dk_at dksX4_sellsBy_4 6 rfl rfl)
def dkwX4_shuts_4 : List UInt8 := [167, 255, 217, 177]
abbrev dktX4_shuts_4 : List UInt8 := dkwX4_shuts_4 ++ []
def dkwX4_shuts_3 : List UInt8 := [96, 28, 96, 3, 79, 42, 180, 0, 7, 16, 64, 16, 6, 28, 104, 96, 27, 96, 3, 79, 132, 2, 1]
abbrev dktX4_shuts_3 : List UInt8 := dkwX4_shuts_3 ++ dktX4_shuts_4
def dkwX4_shuts_2 : List UInt8 := [132, 2, 1, 167, 255, 234, 3, 61, 28, 16, 6, 162, 0, 39, 42, 180, 0, 7, 16, 64, 16, 6, 27, 104]
abbrev dktX4_shuts_2 : List UInt8 := dkwX4_shuts_2 ++ dktX4_shuts_3
def dkwX4_shuts_1 : List UInt8 := [167, 255, 234, 3, 61, 28, 7, 162, 0, 23, 42, 180, 0, 7, 16, 40, 7, 27, 104, 96, 28, 96, 3, 79]
abbrev dktX4_shuts_1 : List UInt8 := dkwX4_shuts_1 ++ dktX4_shuts_2
def dkwX4_shuts_0 : List UInt8 := [3, 61, 28, 5, 163, 0, 23, 42, 180, 0, 7, 16, 10, 8, 27, 104, 96, 28, 96, 3, 79, 132, 2, 1]
abbrev dktX4_shuts_0 : List UInt8 := dkwX4_shuts_0 ++ dktX4_shuts_1
theorem dksX4_shuts_0 : cX4_shuts.data.toList.drop 0 = dktX4_shuts_0 := by decide +kernel
theorem dksX4_shuts_1 : cX4_shuts.data.toList.drop 24 = dktX4_shuts_1 := dk_seg dksX4_shuts_0 24 rfl rfl
theorem dksX4_shuts_2 : cX4_shuts.data.toList.drop 48 = dktX4_shuts_2 := dk_seg dksX4_shuts_1 24 rfl rfl
theorem dksX4_shuts_3 : cX4_shuts.data.toList.drop 72 = dktX4_shuts_3 := dk_seg dksX4_shuts_2 24 rfl rfl
theorem dksX4_shuts_4 : cX4_shuts.data.toList.drop 95 = dktX4_shuts_4 := dk_seg dksX4_shuts_3 23 rfl rfl
theorem dX4_shuts_0 : decode cX4_shuts 0 = .ok (.iconst 0, 1) := dk_3 (dk_at dksX4_shuts_0 0 rfl rfl)
theorem dX4_shuts_1 : decode cX4_shuts 1 = .ok (.istore_n 2, 1) := dk_61 (dk_at dksX4_shuts_0 1 rfl rfl)
theorem dX4_shuts_2 : decode cX4_shuts 2 = .ok (.iload_n 2, 1) := dk_28 (dk_at dksX4_shuts_0 2 rfl rfl)
theorem dX4_shuts_3 : decode cX4_shuts 3 = .ok (.iconst 2, 1) := dk_5 (dk_at dksX4_shuts_0 3 rfl rfl)
theorem dX4_shuts_4 : decode cX4_shuts 4 = .ok (.if_icmp .gt 23, 3) := dk_163 0 23 (dk_at dksX4_shuts_0 4 rfl rfl)
theorem dX4_shuts_7 : decode cX4_shuts 7 = .ok (.aload_n 0, 1) := dk_42 (dk_at dksX4_shuts_0 7 rfl rfl)
theorem dX4_shuts_8 : decode cX4_shuts 8 = .ok (.getfield 7, 3) := dk_180 0 7 (dk_at dksX4_shuts_0 8 rfl rfl)
theorem dX4_shuts_11 : decode cX4_shuts 11 = .ok (.bipush 10, 2) := dk_16 10 (dk_at dksX4_shuts_0 11 rfl rfl)
theorem dX4_shuts_13 : decode cX4_shuts 13 = .ok (.iconst 5, 1) := dk_8 (dk_at dksX4_shuts_0 13 rfl rfl)
theorem dX4_shuts_14 : decode cX4_shuts 14 = .ok (.iload_n 1, 1) := dk_27 (dk_at dksX4_shuts_0 14 rfl rfl)
theorem dX4_shuts_15 : decode cX4_shuts 15 = .ok (.imul, 1) := dk_104 (dk_at dksX4_shuts_0 15 rfl rfl)
theorem dX4_shuts_16 : decode cX4_shuts 16 = .ok (.iadd, 1) := dk_96 (dk_at dksX4_shuts_0 16 rfl rfl)
theorem dX4_shuts_17 : decode cX4_shuts 17 = .ok (.iload_n 2, 1) := dk_28 (dk_at dksX4_shuts_0 17 rfl rfl)
theorem dX4_shuts_18 : decode cX4_shuts 18 = .ok (.iadd, 1) := dk_96 (dk_at dksX4_shuts_0 18 rfl rfl)
theorem dX4_shuts_19 : decode cX4_shuts 19 = .ok (.iconst 0, 1) := dk_3 (dk_at dksX4_shuts_0 19 rfl rfl)
theorem dX4_shuts_20 : decode cX4_shuts 20 = .ok (.iastore, 1) := dk_79 (dk_at dksX4_shuts_0 20 rfl rfl)
theorem dX4_shuts_21 : decode cX4_shuts 21 = .ok (.iinc 2 1, 3) := dk_132 2 1 (dk_at dksX4_shuts_0 21 rfl rfl)
theorem dX4_shuts_24 : decode cX4_shuts 24 = .ok (.goto (-22), 3) := dk_167 255 234 (dk_at dksX4_shuts_1 0 rfl rfl)
theorem dX4_shuts_27 : decode cX4_shuts 27 = .ok (.iconst 0, 1) := dk_3 (dk_at dksX4_shuts_1 3 rfl rfl)
theorem dX4_shuts_28 : decode cX4_shuts 28 = .ok (.istore_n 2, 1) := dk_61 (dk_at dksX4_shuts_1 4 rfl rfl)
theorem dX4_shuts_29 : decode cX4_shuts 29 = .ok (.iload_n 2, 1) := dk_28 (dk_at dksX4_shuts_1 5 rfl rfl)
theorem dX4_shuts_30 : decode cX4_shuts 30 = .ok (.iconst 4, 1) := dk_7 (dk_at dksX4_shuts_1 6 rfl rfl)
theorem dX4_shuts_31 : decode cX4_shuts 31 = .ok (.if_icmp .ge 23, 3) := dk_162 0 23 (dk_at dksX4_shuts_1 7 rfl rfl)
theorem dX4_shuts_34 : decode cX4_shuts 34 = .ok (.aload_n 0, 1) := dk_42 (dk_at dksX4_shuts_1 10 rfl rfl)
theorem dX4_shuts_35 : decode cX4_shuts 35 = .ok (.getfield 7, 3) := dk_180 0 7 (dk_at dksX4_shuts_1 11 rfl rfl)
theorem dX4_shuts_38 : decode cX4_shuts 38 = .ok (.bipush 40, 2) := dk_16 40 (dk_at dksX4_shuts_1 14 rfl rfl)
theorem dX4_shuts_40 : decode cX4_shuts 40 = .ok (.iconst 4, 1) := dk_7 (dk_at dksX4_shuts_1 16 rfl rfl)
theorem dX4_shuts_41 : decode cX4_shuts 41 = .ok (.iload_n 1, 1) := dk_27 (dk_at dksX4_shuts_1 17 rfl rfl)
theorem dX4_shuts_42 : decode cX4_shuts 42 = .ok (.imul, 1) := dk_104 (dk_at dksX4_shuts_1 18 rfl rfl)
theorem dX4_shuts_43 : decode cX4_shuts 43 = .ok (.iadd, 1) := dk_96 (dk_at dksX4_shuts_1 19 rfl rfl)
theorem dX4_shuts_44 : decode cX4_shuts 44 = .ok (.iload_n 2, 1) := dk_28 (dk_at dksX4_shuts_1 20 rfl rfl)
theorem dX4_shuts_45 : decode cX4_shuts 45 = .ok (.iadd, 1) := dk_96 (dk_at dksX4_shuts_1 21 rfl rfl)
theorem dX4_shuts_46 : decode cX4_shuts 46 = .ok (.iconst 0, 1) := dk_3 (dk_at dksX4_shuts_1 22 rfl rfl)
theorem dX4_shuts_47 : decode cX4_shuts 47 = .ok (.iastore, 1) := dk_79 (dk_at dksX4_shuts_1 23 rfl rfl)
theorem dX4_shuts_48 : decode cX4_shuts 48 = .ok (.iinc 2 1, 3) := dk_132 2 1 (dk_at dksX4_shuts_2 0 rfl rfl)
theorem dX4_shuts_51 : decode cX4_shuts 51 = .ok (.goto (-22), 3) := dk_167 255 234 (dk_at dksX4_shuts_2 3 rfl rfl)
theorem dX4_shuts_54 : decode cX4_shuts 54 = .ok (.iconst 0, 1) := dk_3 (dk_at dksX4_shuts_2 6 rfl rfl)
theorem dX4_shuts_55 : decode cX4_shuts 55 = .ok (.istore_n 2, 1) := dk_61 (dk_at dksX4_shuts_2 7 rfl rfl)
theorem dX4_shuts_56 : decode cX4_shuts 56 = .ok (.iload_n 2, 1) := dk_28 (dk_at dksX4_shuts_2 8 rfl rfl)
theorem dX4_shuts_57 : decode cX4_shuts 57 = .ok (.bipush 6, 2) := dk_16 6 (dk_at dksX4_shuts_2 9 rfl rfl)
theorem dX4_shuts_59 : decode cX4_shuts 59 = .ok (.if_icmp .ge 39, 3) := dk_162 0 39 (dk_at dksX4_shuts_2 11 rfl rfl)
theorem dX4_shuts_62 : decode cX4_shuts 62 = .ok (.aload_n 0, 1) := dk_42 (dk_at dksX4_shuts_2 14 rfl rfl)
theorem dX4_shuts_63 : decode cX4_shuts 63 = .ok (.getfield 7, 3) := dk_180 0 7 (dk_at dksX4_shuts_2 15 rfl rfl)
theorem dX4_shuts_66 : decode cX4_shuts 66 = .ok (.bipush 64, 2) := dk_16 64 (dk_at dksX4_shuts_2 18 rfl rfl)
theorem dX4_shuts_68 : decode cX4_shuts 68 = .ok (.bipush 6, 2) := dk_16 6 (dk_at dksX4_shuts_2 20 rfl rfl)
theorem dX4_shuts_70 : decode cX4_shuts 70 = .ok (.iload_n 1, 1) := dk_27 (dk_at dksX4_shuts_2 22 rfl rfl)
theorem dX4_shuts_71 : decode cX4_shuts 71 = .ok (.imul, 1) := dk_104 (dk_at dksX4_shuts_2 23 rfl rfl)
theorem dX4_shuts_72 : decode cX4_shuts 72 = .ok (.iadd, 1) := dk_96 (dk_at dksX4_shuts_3 0 rfl rfl)
theorem dX4_shuts_73 : decode cX4_shuts 73 = .ok (.iload_n 2, 1) := dk_28 (dk_at dksX4_shuts_3 1 rfl rfl)
theorem dX4_shuts_74 : decode cX4_shuts 74 = .ok (.iadd, 1) := dk_96 (dk_at dksX4_shuts_3 2 rfl rfl)
theorem dX4_shuts_75 : decode cX4_shuts 75 = .ok (.iconst 0, 1) := dk_3 (dk_at dksX4_shuts_3 3 rfl rfl)
theorem dX4_shuts_76 : decode cX4_shuts 76 = .ok (.iastore, 1) := dk_79 (dk_at dksX4_shuts_3 4 rfl rfl)
theorem dX4_shuts_77 : decode cX4_shuts 77 = .ok (.aload_n 0, 1) := dk_42 (dk_at dksX4_shuts_3 5 rfl rfl)
theorem dX4_shuts_78 : decode cX4_shuts 78 = .ok (.getfield 7, 3) := dk_180 0 7 (dk_at dksX4_shuts_3 6 rfl rfl)
theorem dX4_shuts_81 : decode cX4_shuts 81 = .ok (.bipush 64, 2) := dk_16 64 (dk_at dksX4_shuts_3 9 rfl rfl)
theorem dX4_shuts_83 : decode cX4_shuts 83 = .ok (.bipush 6, 2) := dk_16 6 (dk_at dksX4_shuts_3 11 rfl rfl)
theorem dX4_shuts_85 : decode cX4_shuts 85 = .ok (.iload_n 2, 1) := dk_28 (dk_at dksX4_shuts_3 13 rfl rfl)
theorem dX4_shuts_86 : decode cX4_shuts 86 = .ok (.imul, 1) := dk_104 (dk_at dksX4_shuts_3 14 rfl rfl)
theorem dX4_shuts_87 : decode cX4_shuts 87 = .ok (.iadd, 1) := dk_96 (dk_at dksX4_shuts_3 15 rfl rfl)
theorem dX4_shuts_88 : decode cX4_shuts 88 = .ok (.iload_n 1, 1) := dk_27 (dk_at dksX4_shuts_3 16 rfl rfl)
theorem dX4_shuts_89 : decode cX4_shuts 89 = .ok (.iadd, 1) := dk_96 (dk_at dksX4_shuts_3 17 rfl rfl)
theorem dX4_shuts_90 : decode cX4_shuts 90 = .ok (.iconst 0, 1) := dk_3 (dk_at dksX4_shuts_3 18 rfl rfl)
theorem dX4_shuts_91 : decode cX4_shuts 91 = .ok (.iastore, 1) := dk_79 (dk_at dksX4_shuts_3 19 rfl rfl)
theorem dX4_shuts_92 : decode cX4_shuts 92 = .ok (.iinc 2 1, 3) := dk_132 2 1 (dk_at dksX4_shuts_3 20 rfl rfl)
theorem dX4_shuts_95 : decode cX4_shuts 95 = .ok (.goto (-39), 3) := dk_167 255 217 (dk_at dksX4_shuts_4 0 rfl rfl)
theorem dX4_shuts_98 : decode cX4_shuts 98 = .ok (.return_, 1) := dk_177 (dk_at dksX4_shuts_4 3 rfl rfl)
def dkwX4_undo_2 : List UInt8 := [96, 46, 79, 132, 1, 1, 167, 255, 225, 42, 180, 0, 152, 172]
abbrev dktX4_undo_2 : List UInt8 := dkwX4_undo_2 ++ []
def dkwX4_undo_1 : List UInt8 := [17, 0, 139, 162, 0, 30, 42, 180, 0, 7, 27, 42, 180, 0, 16, 17, 0, 139, 42, 180, 0, 152, 104, 27]
abbrev dktX4_undo_1 : List UInt8 := dkwX4_undo_1 ++ dktX4_undo_2
def dkwX4_undo_0 : List UInt8 := [42, 180, 0, 152, 154, 0, 5, 2, 172, 42, 89, 180, 0, 152, 4, 100, 181, 0, 152, 3, 60, 27]
abbrev dktX4_undo_0 : List UInt8 := dkwX4_undo_0 ++ dktX4_undo_1
theorem dksX4_undo_0 : cX4_undo.data.toList.drop 0 = dktX4_undo_0 := by decide +kernel
theorem dksX4_undo_1 : cX4_undo.data.toList.drop 22 = dktX4_undo_1 := dk_seg dksX4_undo_0 22 rfl rfl
theorem dksX4_undo_2 : cX4_undo.data.toList.drop 46 = dktX4_undo_2 := dk_seg dksX4_undo_1 24 rfl rfl
theorem dX4_undo_0 : decode cX4_undo 0 = .ok (.aload_n 0, 1) := dk_42 (dk_at dksX4_undo_0 0 rfl rfl)
theorem dX4_undo_1 : decode cX4_undo 1 = .ok (.getfield 152, 3) := dk_180 0 152 (dk_at dksX4_undo_0 1 rfl rfl)
theorem dX4_undo_4 : decode cX4_undo 4 = .ok (.ifCond .ne 5, 3) := dk_154 0 5 (dk_at dksX4_undo_0 4 rfl rfl)
theorem dX4_undo_7 : decode cX4_undo 7 = .ok (.iconst (-1), 1) := dk_2 (dk_at dksX4_undo_0 7 rfl rfl)
theorem dX4_undo_8 : decode cX4_undo 8 = .ok (.ireturn, 1) := dk_172 (dk_at dksX4_undo_0 8 rfl rfl)
theorem dX4_undo_9 : decode cX4_undo 9 = .ok (.aload_n 0, 1) := dk_42 (dk_at dksX4_undo_0 9 rfl rfl)
theorem dX4_undo_10 : decode cX4_undo 10 = .ok (.dup, 1) := dk_89 (dk_at dksX4_undo_0 10 rfl rfl)
theorem dX4_undo_11 : decode cX4_undo 11 = .ok (.getfield 152, 3) := dk_180 0 152 (dk_at dksX4_undo_0 11 rfl rfl)
theorem dX4_undo_14 : decode cX4_undo 14 = .ok (.iconst 1, 1) := dk_4 (dk_at dksX4_undo_0 14 rfl rfl)
theorem dX4_undo_15 : decode cX4_undo 15 = .ok (.isub, 1) := dk_100 (dk_at dksX4_undo_0 15 rfl rfl)
theorem dX4_undo_16 : decode cX4_undo 16 = .ok (.putfield 152, 3) := dk_181 0 152 (dk_at dksX4_undo_0 16 rfl rfl)
theorem dX4_undo_19 : decode cX4_undo 19 = .ok (.iconst 0, 1) := dk_3 (dk_at dksX4_undo_0 19 rfl rfl)
theorem dX4_undo_20 : decode cX4_undo 20 = .ok (.istore_n 1, 1) := dk_60 (dk_at dksX4_undo_0 20 rfl rfl)
theorem dX4_undo_21 : decode cX4_undo 21 = .ok (.iload_n 1, 1) := dk_27 (dk_at dksX4_undo_0 21 rfl rfl)
theorem dX4_undo_22 : decode cX4_undo 22 = .ok (.sipush 139, 3) := dk_17 0 139 (dk_at dksX4_undo_1 0 rfl rfl)
theorem dX4_undo_25 : decode cX4_undo 25 = .ok (.if_icmp .ge 30, 3) := dk_162 0 30 (dk_at dksX4_undo_1 3 rfl rfl)
theorem dX4_undo_28 : decode cX4_undo 28 = .ok (.aload_n 0, 1) := dk_42 (dk_at dksX4_undo_1 6 rfl rfl)
theorem dX4_undo_29 : decode cX4_undo 29 = .ok (.getfield 7, 3) := dk_180 0 7 (dk_at dksX4_undo_1 7 rfl rfl)
theorem dX4_undo_32 : decode cX4_undo 32 = .ok (.iload_n 1, 1) := dk_27 (dk_at dksX4_undo_1 10 rfl rfl)
theorem dX4_undo_33 : decode cX4_undo 33 = .ok (.aload_n 0, 1) := dk_42 (dk_at dksX4_undo_1 11 rfl rfl)
theorem dX4_undo_34 : decode cX4_undo 34 = .ok (.getfield 16, 3) := dk_180 0 16 (dk_at dksX4_undo_1 12 rfl rfl)
theorem dX4_undo_37 : decode cX4_undo 37 = .ok (.sipush 139, 3) := dk_17 0 139 (dk_at dksX4_undo_1 15 rfl rfl)
theorem dX4_undo_40 : decode cX4_undo 40 = .ok (.aload_n 0, 1) := dk_42 (dk_at dksX4_undo_1 18 rfl rfl)
theorem dX4_undo_41 : decode cX4_undo 41 = .ok (.getfield 152, 3) := dk_180 0 152 (dk_at dksX4_undo_1 19 rfl rfl)
theorem dX4_undo_44 : decode cX4_undo 44 = .ok (.imul, 1) := dk_104 (dk_at dksX4_undo_1 22 rfl rfl)
theorem dX4_undo_45 : decode cX4_undo 45 = .ok (.iload_n 1, 1) := dk_27 (dk_at dksX4_undo_1 23 rfl rfl)
theorem dX4_undo_46 : decode cX4_undo 46 = .ok (.iadd, 1) := dk_96 (dk_at dksX4_undo_2 0 rfl rfl)
theorem dX4_undo_47 : decode cX4_undo 47 = .ok (.iaload, 1) := dk_46 (dk_at dksX4_undo_2 1 rfl rfl)
theorem dX4_undo_48 : decode cX4_undo 48 = .ok (.iastore, 1) := dk_79 (dk_at dksX4_undo_2 2 rfl rfl)
theorem dX4_undo_49 : decode cX4_undo 49 = .ok (.iinc 1 1, 3) := dk_132 1 1 (dk_at dksX4_undo_2 3 rfl rfl)
theorem dX4_undo_52 : decode cX4_undo 52 = .ok (.goto (-31), 3) := dk_167 255 225 (dk_at dksX4_undo_2 6 rfl rfl)
theorem dX4_undo_55 : decode cX4_undo 55 = .ok (.aload_n 0, 1) := dk_42 (dk_at dksX4_undo_2 9 rfl rfl)
theorem dX4_undo_56 : decode cX4_undo 56 = .ok (.getfield 152, 3) := dk_180 0 152 (dk_at dksX4_undo_2 10 rfl rfl)
theorem dX4_undo_59 : decode cX4_undo 59 = .ok (.ireturn, 1) := dk_172 (dk_at dksX4_undo_2 13 rfl rfl)
def dkwX4_of_3 : List UInt8 := [182, 0, 181, 167, 0, 10, 42, 21, 4, 27, 182, 0, 181, 96, 62, 132, 4, 1, 167, 255, 216, 29, 172]
abbrev dktX4_of_3 : List UInt8 := dkwX4_of_3 ++ []
def dkwX4_of_2 : List UInt8 := [54, 4, 21, 4, 42, 180, 0, 7, 4, 46, 162, 0, 35, 29, 28, 16, 6, 160, 0, 13, 42, 27, 21, 4]
abbrev dktX4_of_2 : List UInt8 := dkwX4_of_2 ++ dktX4_of_3
def dkwX4_of_1 : List UInt8 := [162, 0, 10, 42, 27, 28, 182, 0, 175, 172, 28, 8, 160, 0, 9, 42, 27, 182, 0, 190, 172, 3, 62, 3]
abbrev dktX4_of_1 : List UInt8 := dkwX4_of_1 ++ dktX4_of_2
def dkwX4_of_0 : List UInt8 := [42, 27, 182, 0, 237, 153, 0, 13, 28, 3, 16, 7, 184, 0, 68, 154, 0, 5, 2, 172, 28, 8]
abbrev dktX4_of_0 : List UInt8 := dkwX4_of_0 ++ dktX4_of_1
theorem dksX4_of_0 : cX4_of.data.toList.drop 0 = dktX4_of_0 := by decide +kernel
theorem dksX4_of_1 : cX4_of.data.toList.drop 22 = dktX4_of_1 := dk_seg dksX4_of_0 22 rfl rfl
theorem dksX4_of_2 : cX4_of.data.toList.drop 46 = dktX4_of_2 := dk_seg dksX4_of_1 24 rfl rfl
theorem dksX4_of_3 : cX4_of.data.toList.drop 70 = dktX4_of_3 := dk_seg dksX4_of_2 24 rfl rfl
theorem dX4_of_0 : decode cX4_of 0 = .ok (.aload_n 0, 1) := dk_42 (dk_at dksX4_of_0 0 rfl rfl)
theorem dX4_of_1 : decode cX4_of 1 = .ok (.iload_n 1, 1) := dk_27 (dk_at dksX4_of_0 1 rfl rfl)
theorem dX4_of_2 : decode cX4_of 2 = .ok (.invokevirtual 237, 3) := dk_182 0 237 (dk_at dksX4_of_0 2 rfl rfl)
theorem dX4_of_5 : decode cX4_of 5 = .ok (.ifCond .eq 13, 3) := dk_153 0 13 (dk_at dksX4_of_0 5 rfl rfl)
theorem dX4_of_8 : decode cX4_of 8 = .ok (.iload_n 2, 1) := dk_28 (dk_at dksX4_of_0 8 rfl rfl)
theorem dX4_of_9 : decode cX4_of 9 = .ok (.iconst 0, 1) := dk_3 (dk_at dksX4_of_0 9 rfl rfl)
theorem dX4_of_10 : decode cX4_of 10 = .ok (.bipush 7, 2) := dk_16 7 (dk_at dksX4_of_0 10 rfl rfl)
theorem dX4_of_12 : decode cX4_of 12 = .ok (.invokestatic 68, 3) := dk_184 0 68 (dk_at dksX4_of_0 12 rfl rfl)
theorem dX4_of_15 : decode cX4_of 15 = .ok (.ifCond .ne 5, 3) := dk_154 0 5 (dk_at dksX4_of_0 15 rfl rfl)
theorem dX4_of_18 : decode cX4_of 18 = .ok (.iconst (-1), 1) := dk_2 (dk_at dksX4_of_0 18 rfl rfl)
theorem dX4_of_19 : decode cX4_of 19 = .ok (.ireturn, 1) := dk_172 (dk_at dksX4_of_0 19 rfl rfl)
theorem dX4_of_20 : decode cX4_of 20 = .ok (.iload_n 2, 1) := dk_28 (dk_at dksX4_of_0 20 rfl rfl)
theorem dX4_of_21 : decode cX4_of 21 = .ok (.iconst 5, 1) := dk_8 (dk_at dksX4_of_0 21 rfl rfl)
theorem dX4_of_22 : decode cX4_of 22 = .ok (.if_icmp .ge 10, 3) := dk_162 0 10 (dk_at dksX4_of_1 0 rfl rfl)
theorem dX4_of_25 : decode cX4_of 25 = .ok (.aload_n 0, 1) := dk_42 (dk_at dksX4_of_1 3 rfl rfl)
theorem dX4_of_26 : decode cX4_of 26 = .ok (.iload_n 1, 1) := dk_27 (dk_at dksX4_of_1 4 rfl rfl)
theorem dX4_of_27 : decode cX4_of 27 = .ok (.iload_n 2, 1) := dk_28 (dk_at dksX4_of_1 5 rfl rfl)
theorem dX4_of_28 : decode cX4_of 28 = .ok (.invokevirtual 175, 3) := dk_182 0 175 (dk_at dksX4_of_1 6 rfl rfl)
theorem dX4_of_31 : decode cX4_of 31 = .ok (.ireturn, 1) := dk_172 (dk_at dksX4_of_1 9 rfl rfl)
theorem dX4_of_32 : decode cX4_of 32 = .ok (.iload_n 2, 1) := dk_28 (dk_at dksX4_of_1 10 rfl rfl)
theorem dX4_of_33 : decode cX4_of 33 = .ok (.iconst 5, 1) := dk_8 (dk_at dksX4_of_1 11 rfl rfl)
theorem dX4_of_34 : decode cX4_of 34 = .ok (.if_icmp .ne 9, 3) := dk_160 0 9 (dk_at dksX4_of_1 12 rfl rfl)
theorem dX4_of_37 : decode cX4_of 37 = .ok (.aload_n 0, 1) := dk_42 (dk_at dksX4_of_1 15 rfl rfl)
theorem dX4_of_38 : decode cX4_of 38 = .ok (.iload_n 1, 1) := dk_27 (dk_at dksX4_of_1 16 rfl rfl)
theorem dX4_of_39 : decode cX4_of 39 = .ok (.invokevirtual 190, 3) := dk_182 0 190 (dk_at dksX4_of_1 17 rfl rfl)
theorem dX4_of_42 : decode cX4_of 42 = .ok (.ireturn, 1) := dk_172 (dk_at dksX4_of_1 20 rfl rfl)
theorem dX4_of_43 : decode cX4_of 43 = .ok (.iconst 0, 1) := dk_3 (dk_at dksX4_of_1 21 rfl rfl)
theorem dX4_of_44 : decode cX4_of 44 = .ok (.istore_n 3, 1) := dk_62 (dk_at dksX4_of_1 22 rfl rfl)
theorem dX4_of_45 : decode cX4_of 45 = .ok (.iconst 0, 1) := dk_3 (dk_at dksX4_of_1 23 rfl rfl)
theorem dX4_of_46 : decode cX4_of 46 = .ok (.istore 4, 2) := dk_54 4 (dk_at dksX4_of_2 0 rfl rfl)
theorem dX4_of_48 : decode cX4_of 48 = .ok (.iload 4, 2) := dk_21 4 (dk_at dksX4_of_2 2 rfl rfl)
theorem dX4_of_50 : decode cX4_of 50 = .ok (.aload_n 0, 1) := dk_42 (dk_at dksX4_of_2 4 rfl rfl)
theorem dX4_of_51 : decode cX4_of 51 = .ok (.getfield 7, 3) := dk_180 0 7 (dk_at dksX4_of_2 5 rfl rfl)
theorem dX4_of_54 : decode cX4_of 54 = .ok (.iconst 1, 1) := dk_4 (dk_at dksX4_of_2 8 rfl rfl)
theorem dX4_of_55 : decode cX4_of 55 = .ok (.iaload, 1) := dk_46 (dk_at dksX4_of_2 9 rfl rfl)
theorem dX4_of_56 : decode cX4_of 56 = .ok (.if_icmp .ge 35, 3) := dk_162 0 35 (dk_at dksX4_of_2 10 rfl rfl)
theorem dX4_of_59 : decode cX4_of 59 = .ok (.iload_n 3, 1) := dk_29 (dk_at dksX4_of_2 13 rfl rfl)
theorem dX4_of_60 : decode cX4_of 60 = .ok (.iload_n 2, 1) := dk_28 (dk_at dksX4_of_2 14 rfl rfl)
theorem dX4_of_61 : decode cX4_of 61 = .ok (.bipush 6, 2) := dk_16 6 (dk_at dksX4_of_2 15 rfl rfl)
theorem dX4_of_63 : decode cX4_of 63 = .ok (.if_icmp .ne 13, 3) := dk_160 0 13 (dk_at dksX4_of_2 17 rfl rfl)
theorem dX4_of_66 : decode cX4_of 66 = .ok (.aload_n 0, 1) := dk_42 (dk_at dksX4_of_2 20 rfl rfl)
theorem dX4_of_67 : decode cX4_of 67 = .ok (.iload_n 1, 1) := dk_27 (dk_at dksX4_of_2 21 rfl rfl)
theorem dX4_of_68 : decode cX4_of 68 = .ok (.iload 4, 2) := dk_21 4 (dk_at dksX4_of_2 22 rfl rfl)
theorem dX4_of_70 : decode cX4_of 70 = .ok (.invokevirtual 181, 3) := dk_182 0 181 (dk_at dksX4_of_3 0 rfl rfl)
theorem dX4_of_73 : decode cX4_of 73 = .ok (.goto 10, 3) := dk_167 0 10 (dk_at dksX4_of_3 3 rfl rfl)
theorem dX4_of_76 : decode cX4_of 76 = .ok (.aload_n 0, 1) := dk_42 (dk_at dksX4_of_3 6 rfl rfl)
theorem dX4_of_77 : decode cX4_of 77 = .ok (.iload 4, 2) := dk_21 4 (dk_at dksX4_of_3 7 rfl rfl)
theorem dX4_of_79 : decode cX4_of 79 = .ok (.iload_n 1, 1) := dk_27 (dk_at dksX4_of_3 9 rfl rfl)
theorem dX4_of_80 : decode cX4_of 80 = .ok (.invokevirtual 181, 3) := dk_182 0 181 (dk_at dksX4_of_3 10 rfl rfl)
theorem dX4_of_83 : decode cX4_of 83 = .ok (.iadd, 1) := dk_96 (dk_at dksX4_of_3 13 rfl rfl)
theorem dX4_of_84 : decode cX4_of 84 = .ok (.istore_n 3, 1) := dk_62 (dk_at dksX4_of_3 14 rfl rfl)
theorem dX4_of_85 : decode cX4_of 85 = .ok (.iinc 4 1, 3) := dk_132 4 1 (dk_at dksX4_of_3 15 rfl rfl)
theorem dX4_of_88 : decode cX4_of 88 = .ok (.goto (-40), 3) := dk_167 255 216 (dk_at dksX4_of_3 18 rfl rfl)
theorem dX4_of_91 : decode cX4_of 91 = .ok (.iload_n 3, 1) := dk_29 (dk_at dksX4_of_3 21 rfl rfl)
theorem dX4_of_92 : decode cX4_of 92 = .ok (.ireturn, 1) := dk_172 (dk_at dksX4_of_3 22 rfl rfl)
def dkwX4_holding_1 : List UInt8 := [167, 0, 4, 2, 172]
abbrev dktX4_holding_1 : List UInt8 := dkwX4_holding_1 ++ []
def dkwX4_holding_0 : List UInt8 := [42, 27, 182, 0, 237, 153, 0, 20, 42, 28, 182, 0, 224, 153, 0, 12, 42, 27, 28, 182, 0, 72]
abbrev dktX4_holding_0 : List UInt8 := dkwX4_holding_0 ++ dktX4_holding_1
theorem dksX4_holding_0 : cX4_holding.data.toList.drop 0 = dktX4_holding_0 := by decide +kernel
theorem dksX4_holding_1 : cX4_holding.data.toList.drop 22 = dktX4_holding_1 := dk_seg dksX4_holding_0 22 rfl rfl
theorem dX4_holding_0 : decode cX4_holding 0 = .ok (.aload_n 0, 1) := dk_42 (dk_at dksX4_holding_0 0 rfl rfl)
theorem dX4_holding_1 : decode cX4_holding 1 = .ok (.iload_n 1, 1) := dk_27 (dk_at dksX4_holding_0 1 rfl rfl)
theorem dX4_holding_2 : decode cX4_holding 2 = .ok (.invokevirtual 237, 3) := dk_182 0 237 (dk_at dksX4_holding_0 2 rfl rfl)
theorem dX4_holding_5 : decode cX4_holding 5 = .ok (.ifCond .eq 20, 3) := dk_153 0 20 (dk_at dksX4_holding_0 5 rfl rfl)
theorem dX4_holding_8 : decode cX4_holding 8 = .ok (.aload_n 0, 1) := dk_42 (dk_at dksX4_holding_0 8 rfl rfl)
theorem dX4_holding_9 : decode cX4_holding 9 = .ok (.iload_n 2, 1) := dk_28 (dk_at dksX4_holding_0 9 rfl rfl)
theorem dX4_holding_10 : decode cX4_holding 10 = .ok (.invokevirtual 224, 3) := dk_182 0 224 (dk_at dksX4_holding_0 10 rfl rfl)
theorem dX4_holding_13 : decode cX4_holding 13 = .ok (.ifCond .eq 12, 3) := dk_153 0 12 (dk_at dksX4_holding_0 13 rfl rfl)
theorem dX4_holding_16 : decode cX4_holding 16 = .ok (.aload_n 0, 1) := dk_42 (dk_at dksX4_holding_0 16 rfl rfl)
theorem dX4_holding_17 : decode cX4_holding 17 = .ok (.iload_n 1, 1) := dk_27 (dk_at dksX4_holding_0 17 rfl rfl)
theorem dX4_holding_18 : decode cX4_holding 18 = .ok (.iload_n 2, 1) := dk_28 (dk_at dksX4_holding_0 18 rfl rfl)
theorem dX4_holding_19 : decode cX4_holding 19 = .ok (.invokevirtual 72, 3) := dk_182 0 72 (dk_at dksX4_holding_0 19 rfl rfl)
theorem dX4_holding_22 : decode cX4_holding 22 = .ok (.goto 4, 3) := dk_167 0 4 (dk_at dksX4_holding_1 0 rfl rfl)
theorem dX4_holding_25 : decode cX4_holding 25 = .ok (.iconst (-1), 1) := dk_2 (dk_at dksX4_holding_1 3 rfl rfl)
theorem dX4_holding_26 : decode cX4_holding 26 = .ok (.ireturn, 1) := dk_172 (dk_at dksX4_holding_1 4 rfl rfl)
def dkwX4_owes_1 : List UInt8 := [167, 0, 4, 2, 172]
abbrev dktX4_owes_1 : List UInt8 := dkwX4_owes_1 ++ []
def dkwX4_owes_0 : List UInt8 := [42, 27, 182, 0, 237, 153, 0, 20, 42, 28, 182, 0, 237, 153, 0, 12, 42, 27, 28, 182, 0, 181]
abbrev dktX4_owes_0 : List UInt8 := dkwX4_owes_0 ++ dktX4_owes_1
theorem dksX4_owes_0 : cX4_owes.data.toList.drop 0 = dktX4_owes_0 := by decide +kernel
theorem dksX4_owes_1 : cX4_owes.data.toList.drop 22 = dktX4_owes_1 := dk_seg dksX4_owes_0 22 rfl rfl
theorem dX4_owes_0 : decode cX4_owes 0 = .ok (.aload_n 0, 1) := dk_42 (dk_at dksX4_owes_0 0 rfl rfl)
theorem dX4_owes_1 : decode cX4_owes 1 = .ok (.iload_n 1, 1) := dk_27 (dk_at dksX4_owes_0 1 rfl rfl)
theorem dX4_owes_2 : decode cX4_owes 2 = .ok (.invokevirtual 237, 3) := dk_182 0 237 (dk_at dksX4_owes_0 2 rfl rfl)
theorem dX4_owes_5 : decode cX4_owes 5 = .ok (.ifCond .eq 20, 3) := dk_153 0 20 (dk_at dksX4_owes_0 5 rfl rfl)
theorem dX4_owes_8 : decode cX4_owes 8 = .ok (.aload_n 0, 1) := dk_42 (dk_at dksX4_owes_0 8 rfl rfl)
theorem dX4_owes_9 : decode cX4_owes 9 = .ok (.iload_n 2, 1) := dk_28 (dk_at dksX4_owes_0 9 rfl rfl)
theorem dX4_owes_10 : decode cX4_owes 10 = .ok (.invokevirtual 237, 3) := dk_182 0 237 (dk_at dksX4_owes_0 10 rfl rfl)
theorem dX4_owes_13 : decode cX4_owes 13 = .ok (.ifCond .eq 12, 3) := dk_153 0 12 (dk_at dksX4_owes_0 13 rfl rfl)
theorem dX4_owes_16 : decode cX4_owes 16 = .ok (.aload_n 0, 1) := dk_42 (dk_at dksX4_owes_0 16 rfl rfl)
theorem dX4_owes_17 : decode cX4_owes 17 = .ok (.iload_n 1, 1) := dk_27 (dk_at dksX4_owes_0 17 rfl rfl)
theorem dX4_owes_18 : decode cX4_owes 18 = .ok (.iload_n 2, 1) := dk_28 (dk_at dksX4_owes_0 18 rfl rfl)
theorem dX4_owes_19 : decode cX4_owes 19 = .ok (.invokevirtual 181, 3) := dk_182 0 181 (dk_at dksX4_owes_0 19 rfl rfl)
theorem dX4_owes_22 : decode cX4_owes 22 = .ok (.goto 4, 3) := dk_167 0 4 (dk_at dksX4_owes_1 0 rfl rfl)
theorem dX4_owes_25 : decode cX4_owes 25 = .ok (.iconst (-1), 1) := dk_2 (dk_at dksX4_owes_1 3 rfl rfl)
theorem dX4_owes_26 : decode cX4_owes 26 = .ok (.ireturn, 1) := dk_172 (dk_at dksX4_owes_1 4 rfl rfl)
def dkwX4_ofAsset_3 : List UInt8 := [172, 42, 27, 182, 0, 168, 172, 42, 27, 182, 0, 172, 172, 2, 172]
abbrev dktX4_ofAsset_3 : List UInt8 := dkwX4_ofAsset_3 ++ []
def dkwX4_ofAsset_2 : List UInt8 := [42, 180, 0, 7, 5, 27, 96, 46, 172, 42, 180, 0, 7, 16, 6, 27, 96, 46, 172, 42, 27, 182, 0, 205]
abbrev dktX4_ofAsset_2 : List UInt8 := dkwX4_ofAsset_2 ++ dktX4_ofAsset_3
def dkwX4_ofAsset_1 : List UInt8 := [170, 0, 0, 0, 70, 0, 0, 0, 0, 0, 0, 0, 4, 0, 0, 0, 33, 0, 0, 0, 42, 0, 0, 0, 52, 0, 0, 0, 58, 0, 0, 0, 64]
abbrev dktX4_ofAsset_1 : List UInt8 := dkwX4_ofAsset_1 ++ dktX4_ofAsset_2
def dkwX4_ofAsset_0 : List UInt8 := [42, 27, 182, 0, 224, 154, 0, 5, 2, 172, 28]
abbrev dktX4_ofAsset_0 : List UInt8 := dkwX4_ofAsset_0 ++ dktX4_ofAsset_1
theorem dksX4_ofAsset_0 : cX4_ofAsset.data.toList.drop 0 = dktX4_ofAsset_0 := by decide +kernel
theorem dksX4_ofAsset_1 : cX4_ofAsset.data.toList.drop 11 = dktX4_ofAsset_1 := dk_seg dksX4_ofAsset_0 11 rfl rfl
theorem dksX4_ofAsset_2 : cX4_ofAsset.data.toList.drop 44 = dktX4_ofAsset_2 := dk_seg dksX4_ofAsset_1 33 rfl rfl
theorem dksX4_ofAsset_3 : cX4_ofAsset.data.toList.drop 68 = dktX4_ofAsset_3 := dk_seg dksX4_ofAsset_2 24 rfl rfl
theorem dX4_ofAsset_0 : decode cX4_ofAsset 0 = .ok (.aload_n 0, 1) := dk_42 (dk_at dksX4_ofAsset_0 0 rfl rfl)
theorem dX4_ofAsset_1 : decode cX4_ofAsset 1 = .ok (.iload_n 1, 1) := dk_27 (dk_at dksX4_ofAsset_0 1 rfl rfl)
theorem dX4_ofAsset_2 : decode cX4_ofAsset 2 = .ok (.invokevirtual 224, 3) := dk_182 0 224 (dk_at dksX4_ofAsset_0 2 rfl rfl)
theorem dX4_ofAsset_5 : decode cX4_ofAsset 5 = .ok (.ifCond .ne 5, 3) := dk_154 0 5 (dk_at dksX4_ofAsset_0 5 rfl rfl)
theorem dX4_ofAsset_8 : decode cX4_ofAsset 8 = .ok (.iconst (-1), 1) := dk_2 (dk_at dksX4_ofAsset_0 8 rfl rfl)
theorem dX4_ofAsset_9 : decode cX4_ofAsset 9 = .ok (.ireturn, 1) := dk_172 (dk_at dksX4_ofAsset_0 9 rfl rfl)
theorem dX4_ofAsset_10 : decode cX4_ofAsset 10 = .ok (.iload_n 2, 1) := dk_28 (dk_at dksX4_ofAsset_0 10 rfl rfl)
theorem dX4_ofAsset_11 : decode cX4_ofAsset 11 = .ok (.tableswitch 70 0 4 #[33, 42, 52, 58, 64], 33) := by decide +kernel
theorem dX4_ofAsset_44 : decode cX4_ofAsset 44 = .ok (.aload_n 0, 1) := dk_42 (dk_at dksX4_ofAsset_2 0 rfl rfl)
theorem dX4_ofAsset_45 : decode cX4_ofAsset 45 = .ok (.getfield 7, 3) := dk_180 0 7 (dk_at dksX4_ofAsset_2 1 rfl rfl)
theorem dX4_ofAsset_48 : decode cX4_ofAsset 48 = .ok (.iconst 2, 1) := dk_5 (dk_at dksX4_ofAsset_2 4 rfl rfl)
theorem dX4_ofAsset_49 : decode cX4_ofAsset 49 = .ok (.iload_n 1, 1) := dk_27 (dk_at dksX4_ofAsset_2 5 rfl rfl)
theorem dX4_ofAsset_50 : decode cX4_ofAsset 50 = .ok (.iadd, 1) := dk_96 (dk_at dksX4_ofAsset_2 6 rfl rfl)
theorem dX4_ofAsset_51 : decode cX4_ofAsset 51 = .ok (.iaload, 1) := dk_46 (dk_at dksX4_ofAsset_2 7 rfl rfl)
theorem dX4_ofAsset_52 : decode cX4_ofAsset 52 = .ok (.ireturn, 1) := dk_172 (dk_at dksX4_ofAsset_2 8 rfl rfl)
theorem dX4_ofAsset_53 : decode cX4_ofAsset 53 = .ok (.aload_n 0, 1) := dk_42 (dk_at dksX4_ofAsset_2 9 rfl rfl)
theorem dX4_ofAsset_54 : decode cX4_ofAsset 54 = .ok (.getfield 7, 3) := dk_180 0 7 (dk_at dksX4_ofAsset_2 10 rfl rfl)
theorem dX4_ofAsset_57 : decode cX4_ofAsset 57 = .ok (.bipush 6, 2) := dk_16 6 (dk_at dksX4_ofAsset_2 13 rfl rfl)
theorem dX4_ofAsset_59 : decode cX4_ofAsset 59 = .ok (.iload_n 1, 1) := dk_27 (dk_at dksX4_ofAsset_2 15 rfl rfl)
theorem dX4_ofAsset_60 : decode cX4_ofAsset 60 = .ok (.iadd, 1) := dk_96 (dk_at dksX4_ofAsset_2 16 rfl rfl)
theorem dX4_ofAsset_61 : decode cX4_ofAsset 61 = .ok (.iaload, 1) := dk_46 (dk_at dksX4_ofAsset_2 17 rfl rfl)
theorem dX4_ofAsset_62 : decode cX4_ofAsset 62 = .ok (.ireturn, 1) := dk_172 (dk_at dksX4_ofAsset_2 18 rfl rfl)
theorem dX4_ofAsset_63 : decode cX4_ofAsset 63 = .ok (.aload_n 0, 1) := dk_42 (dk_at dksX4_ofAsset_2 19 rfl rfl)
theorem dX4_ofAsset_64 : decode cX4_ofAsset 64 = .ok (.iload_n 1, 1) := dk_27 (dk_at dksX4_ofAsset_2 20 rfl rfl)
theorem dX4_ofAsset_65 : decode cX4_ofAsset 65 = .ok (.invokevirtual 205, 3) := dk_182 0 205 (dk_at dksX4_ofAsset_2 21 rfl rfl)
theorem dX4_ofAsset_68 : decode cX4_ofAsset 68 = .ok (.ireturn, 1) := dk_172 (dk_at dksX4_ofAsset_3 0 rfl rfl)
theorem dX4_ofAsset_69 : decode cX4_ofAsset 69 = .ok (.aload_n 0, 1) := dk_42 (dk_at dksX4_ofAsset_3 1 rfl rfl)
theorem dX4_ofAsset_70 : decode cX4_ofAsset 70 = .ok (.iload_n 1, 1) := dk_27 (dk_at dksX4_ofAsset_3 2 rfl rfl)
theorem dX4_ofAsset_71 : decode cX4_ofAsset 71 = .ok (.invokevirtual 168, 3) := dk_182 0 168 (dk_at dksX4_ofAsset_3 3 rfl rfl)
theorem dX4_ofAsset_74 : decode cX4_ofAsset 74 = .ok (.ireturn, 1) := dk_172 (dk_at dksX4_ofAsset_3 6 rfl rfl)
theorem dX4_ofAsset_75 : decode cX4_ofAsset 75 = .ok (.aload_n 0, 1) := dk_42 (dk_at dksX4_ofAsset_3 7 rfl rfl)
theorem dX4_ofAsset_76 : decode cX4_ofAsset 76 = .ok (.iload_n 1, 1) := dk_27 (dk_at dksX4_ofAsset_3 8 rfl rfl)
theorem dX4_ofAsset_77 : decode cX4_ofAsset 77 = .ok (.invokevirtual 172, 3) := dk_182 0 172 (dk_at dksX4_ofAsset_3 9 rfl rfl)
theorem dX4_ofAsset_80 : decode cX4_ofAsset 80 = .ok (.ireturn, 1) := dk_172 (dk_at dksX4_ofAsset_3 12 rfl rfl)
theorem dX4_ofAsset_81 : decode cX4_ofAsset 81 = .ok (.iconst (-1), 1) := dk_2 (dk_at dksX4_ofAsset_3 13 rfl rfl)
theorem dX4_ofAsset_82 : decode cX4_ofAsset 82 = .ok (.ireturn, 1) := dk_172 (dk_at dksX4_ofAsset_3 14 rfl rfl)
def dkwX4_shelf_2 : List UInt8 := [182, 0, 155, 172]
abbrev dktX4_shelf_2 : List UInt8 := dkwX4_shelf_2 ++ []
def dkwX4_shelf_1 : List UInt8 := [100, 184, 0, 68, 153, 0, 12, 29, 3, 5, 184, 0, 68, 154, 0, 5, 2, 172, 42, 27, 28, 29]
abbrev dktX4_shelf_1 : List UInt8 := dkwX4_shelf_1 ++ dktX4_shelf_2
def dkwX4_shelf_0 : List UInt8 := [27, 3, 5, 184, 0, 68, 153, 0, 34, 28, 3, 42, 180, 0, 7, 16, 100, 16, 13, 27, 104, 96, 46, 4]
abbrev dktX4_shelf_0 : List UInt8 := dkwX4_shelf_0 ++ dktX4_shelf_1
theorem dksX4_shelf_0 : cX4_shelf.data.toList.drop 0 = dktX4_shelf_0 := by decide +kernel
theorem dksX4_shelf_1 : cX4_shelf.data.toList.drop 24 = dktX4_shelf_1 := dk_seg dksX4_shelf_0 24 rfl rfl
theorem dksX4_shelf_2 : cX4_shelf.data.toList.drop 46 = dktX4_shelf_2 := dk_seg dksX4_shelf_1 22 rfl rfl
theorem dX4_shelf_0 : decode cX4_shelf 0 = .ok (.iload_n 1, 1) := dk_27 (dk_at dksX4_shelf_0 0 rfl rfl)
theorem dX4_shelf_1 : decode cX4_shelf 1 = .ok (.iconst 0, 1) := dk_3 (dk_at dksX4_shelf_0 1 rfl rfl)
theorem dX4_shelf_2 : decode cX4_shelf 2 = .ok (.iconst 2, 1) := dk_5 (dk_at dksX4_shelf_0 2 rfl rfl)
theorem dX4_shelf_3 : decode cX4_shelf 3 = .ok (.invokestatic 68, 3) := dk_184 0 68 (dk_at dksX4_shelf_0 3 rfl rfl)
theorem dX4_shelf_6 : decode cX4_shelf 6 = .ok (.ifCond .eq 34, 3) := dk_153 0 34 (dk_at dksX4_shelf_0 6 rfl rfl)
theorem dX4_shelf_9 : decode cX4_shelf 9 = .ok (.iload_n 2, 1) := dk_28 (dk_at dksX4_shelf_0 9 rfl rfl)
theorem dX4_shelf_10 : decode cX4_shelf 10 = .ok (.iconst 0, 1) := dk_3 (dk_at dksX4_shelf_0 10 rfl rfl)
theorem dX4_shelf_11 : decode cX4_shelf 11 = .ok (.aload_n 0, 1) := dk_42 (dk_at dksX4_shelf_0 11 rfl rfl)
theorem dX4_shelf_12 : decode cX4_shelf 12 = .ok (.getfield 7, 3) := dk_180 0 7 (dk_at dksX4_shelf_0 12 rfl rfl)
theorem dX4_shelf_15 : decode cX4_shelf 15 = .ok (.bipush 100, 2) := dk_16 100 (dk_at dksX4_shelf_0 15 rfl rfl)
theorem dX4_shelf_17 : decode cX4_shelf 17 = .ok (.bipush 13, 2) := dk_16 13 (dk_at dksX4_shelf_0 17 rfl rfl)
theorem dX4_shelf_19 : decode cX4_shelf 19 = .ok (.iload_n 1, 1) := dk_27 (dk_at dksX4_shelf_0 19 rfl rfl)
theorem dX4_shelf_20 : decode cX4_shelf 20 = .ok (.imul, 1) := dk_104 (dk_at dksX4_shelf_0 20 rfl rfl)
theorem dX4_shelf_21 : decode cX4_shelf 21 = .ok (.iadd, 1) := dk_96 (dk_at dksX4_shelf_0 21 rfl rfl)
theorem dX4_shelf_22 : decode cX4_shelf 22 = .ok (.iaload, 1) := dk_46 (dk_at dksX4_shelf_0 22 rfl rfl)
theorem dX4_shelf_23 : decode cX4_shelf 23 = .ok (.iconst 1, 1) := dk_4 (dk_at dksX4_shelf_0 23 rfl rfl)
theorem dX4_shelf_24 : decode cX4_shelf 24 = .ok (.isub, 1) := dk_100 (dk_at dksX4_shelf_1 0 rfl rfl)
theorem dX4_shelf_25 : decode cX4_shelf 25 = .ok (.invokestatic 68, 3) := dk_184 0 68 (dk_at dksX4_shelf_1 1 rfl rfl)
theorem dX4_shelf_28 : decode cX4_shelf 28 = .ok (.ifCond .eq 12, 3) := dk_153 0 12 (dk_at dksX4_shelf_1 4 rfl rfl)
theorem dX4_shelf_31 : decode cX4_shelf 31 = .ok (.iload_n 3, 1) := dk_29 (dk_at dksX4_shelf_1 7 rfl rfl)
theorem dX4_shelf_32 : decode cX4_shelf 32 = .ok (.iconst 0, 1) := dk_3 (dk_at dksX4_shelf_1 8 rfl rfl)
theorem dX4_shelf_33 : decode cX4_shelf 33 = .ok (.iconst 2, 1) := dk_5 (dk_at dksX4_shelf_1 9 rfl rfl)
theorem dX4_shelf_34 : decode cX4_shelf 34 = .ok (.invokestatic 68, 3) := dk_184 0 68 (dk_at dksX4_shelf_1 10 rfl rfl)
theorem dX4_shelf_37 : decode cX4_shelf 37 = .ok (.ifCond .ne 5, 3) := dk_154 0 5 (dk_at dksX4_shelf_1 13 rfl rfl)
theorem dX4_shelf_40 : decode cX4_shelf 40 = .ok (.iconst (-1), 1) := dk_2 (dk_at dksX4_shelf_1 16 rfl rfl)
theorem dX4_shelf_41 : decode cX4_shelf 41 = .ok (.ireturn, 1) := dk_172 (dk_at dksX4_shelf_1 17 rfl rfl)
theorem dX4_shelf_42 : decode cX4_shelf 42 = .ok (.aload_n 0, 1) := dk_42 (dk_at dksX4_shelf_1 18 rfl rfl)
theorem dX4_shelf_43 : decode cX4_shelf 43 = .ok (.iload_n 1, 1) := dk_27 (dk_at dksX4_shelf_1 19 rfl rfl)
theorem dX4_shelf_44 : decode cX4_shelf 44 = .ok (.iload_n 2, 1) := dk_28 (dk_at dksX4_shelf_1 20 rfl rfl)
theorem dX4_shelf_45 : decode cX4_shelf 45 = .ok (.iload_n 3, 1) := dk_29 (dk_at dksX4_shelf_1 21 rfl rfl)
theorem dX4_shelf_46 : decode cX4_shelf 46 = .ok (.invokevirtual 155, 3) := dk_182 0 155 (dk_at dksX4_shelf_2 0 rfl rfl)
theorem dX4_shelf_49 : decode cX4_shelf 49 = .ok (.ireturn, 1) := dk_172 (dk_at dksX4_shelf_2 3 rfl rfl)
def dkwX4_state_1 : List UInt8 := [27, 182, 1, 14, 42, 28, 182, 1, 2, 172]
abbrev dktX4_state_1 : List UInt8 := dkwX4_state_1 ++ []
def dkwX4_state_0 : List UInt8 := [27, 3, 6, 184, 0, 68, 153, 0, 11, 42, 28, 182, 1, 11, 154, 0, 5, 2, 172, 42, 182, 0, 252, 42]
abbrev dktX4_state_0 : List UInt8 := dkwX4_state_0 ++ dktX4_state_1
theorem dksX4_state_0 : cX4_state.data.toList.drop 0 = dktX4_state_0 := by decide +kernel
theorem dksX4_state_1 : cX4_state.data.toList.drop 24 = dktX4_state_1 := dk_seg dksX4_state_0 24 rfl rfl
theorem dX4_state_0 : decode cX4_state 0 = .ok (.iload_n 1, 1) := dk_27 (dk_at dksX4_state_0 0 rfl rfl)
theorem dX4_state_1 : decode cX4_state 1 = .ok (.iconst 0, 1) := dk_3 (dk_at dksX4_state_0 1 rfl rfl)
theorem dX4_state_2 : decode cX4_state 2 = .ok (.iconst 3, 1) := dk_6 (dk_at dksX4_state_0 2 rfl rfl)
theorem dX4_state_3 : decode cX4_state 3 = .ok (.invokestatic 68, 3) := dk_184 0 68 (dk_at dksX4_state_0 3 rfl rfl)
theorem dX4_state_6 : decode cX4_state 6 = .ok (.ifCond .eq 11, 3) := dk_153 0 11 (dk_at dksX4_state_0 6 rfl rfl)
theorem dX4_state_9 : decode cX4_state 9 = .ok (.aload_n 0, 1) := dk_42 (dk_at dksX4_state_0 9 rfl rfl)
theorem dX4_state_10 : decode cX4_state 10 = .ok (.iload_n 2, 1) := dk_28 (dk_at dksX4_state_0 10 rfl rfl)
theorem dX4_state_11 : decode cX4_state 11 = .ok (.invokevirtual 267, 3) := dk_182 1 11 (dk_at dksX4_state_0 11 rfl rfl)
theorem dX4_state_14 : decode cX4_state 14 = .ok (.ifCond .ne 5, 3) := dk_154 0 5 (dk_at dksX4_state_0 14 rfl rfl)
theorem dX4_state_17 : decode cX4_state 17 = .ok (.iconst (-1), 1) := dk_2 (dk_at dksX4_state_0 17 rfl rfl)
theorem dX4_state_18 : decode cX4_state 18 = .ok (.ireturn, 1) := dk_172 (dk_at dksX4_state_0 18 rfl rfl)
theorem dX4_state_19 : decode cX4_state 19 = .ok (.aload_n 0, 1) := dk_42 (dk_at dksX4_state_0 19 rfl rfl)
theorem dX4_state_20 : decode cX4_state 20 = .ok (.invokevirtual 252, 3) := dk_182 0 252 (dk_at dksX4_state_0 20 rfl rfl)
theorem dX4_state_23 : decode cX4_state 23 = .ok (.aload_n 0, 1) := dk_42 (dk_at dksX4_state_0 23 rfl rfl)
theorem dX4_state_24 : decode cX4_state 24 = .ok (.iload_n 1, 1) := dk_27 (dk_at dksX4_state_1 0 rfl rfl)
theorem dX4_state_25 : decode cX4_state 25 = .ok (.invokevirtual 270, 3) := dk_182 1 14 (dk_at dksX4_state_1 1 rfl rfl)
theorem dX4_state_28 : decode cX4_state 28 = .ok (.aload_n 0, 1) := dk_42 (dk_at dksX4_state_1 4 rfl rfl)
theorem dX4_state_29 : decode cX4_state 29 = .ok (.iload_n 2, 1) := dk_28 (dk_at dksX4_state_1 5 rfl rfl)
theorem dX4_state_30 : decode cX4_state 30 = .ok (.invokevirtual 258, 3) := dk_182 1 2 (dk_at dksX4_state_1 6 rfl rfl)
theorem dX4_state_33 : decode cX4_state 33 = .ok (.ireturn, 1) := dk_172 (dk_at dksX4_state_1 9 rfl rfl)
def dkwX4_isAsked_1 : List UInt8 := [172]
abbrev dktX4_isAsked_1 : List UInt8 := dkwX4_isAsked_1 ++ []
def dkwX4_isAsked_0 : List UInt8 := [27, 3, 6, 184, 0, 68, 153, 0, 11, 42, 27, 182, 0, 224, 167, 0, 10, 27, 7, 16, 7, 184, 0, 68]
abbrev dktX4_isAsked_0 : List UInt8 := dkwX4_isAsked_0 ++ dktX4_isAsked_1
theorem dksX4_isAsked_0 : cX4_isAsked.data.toList.drop 0 = dktX4_isAsked_0 := by decide +kernel
theorem dksX4_isAsked_1 : cX4_isAsked.data.toList.drop 24 = dktX4_isAsked_1 := dk_seg dksX4_isAsked_0 24 rfl rfl
theorem dX4_isAsked_0 : decode cX4_isAsked 0 = .ok (.iload_n 1, 1) := dk_27 (dk_at dksX4_isAsked_0 0 rfl rfl)
theorem dX4_isAsked_1 : decode cX4_isAsked 1 = .ok (.iconst 0, 1) := dk_3 (dk_at dksX4_isAsked_0 1 rfl rfl)
theorem dX4_isAsked_2 : decode cX4_isAsked 2 = .ok (.iconst 3, 1) := dk_6 (dk_at dksX4_isAsked_0 2 rfl rfl)
theorem dX4_isAsked_3 : decode cX4_isAsked 3 = .ok (.invokestatic 68, 3) := dk_184 0 68 (dk_at dksX4_isAsked_0 3 rfl rfl)
theorem dX4_isAsked_6 : decode cX4_isAsked 6 = .ok (.ifCond .eq 11, 3) := dk_153 0 11 (dk_at dksX4_isAsked_0 6 rfl rfl)
theorem dX4_isAsked_9 : decode cX4_isAsked 9 = .ok (.aload_n 0, 1) := dk_42 (dk_at dksX4_isAsked_0 9 rfl rfl)
theorem dX4_isAsked_10 : decode cX4_isAsked 10 = .ok (.iload_n 1, 1) := dk_27 (dk_at dksX4_isAsked_0 10 rfl rfl)
theorem dX4_isAsked_11 : decode cX4_isAsked 11 = .ok (.invokevirtual 224, 3) := dk_182 0 224 (dk_at dksX4_isAsked_0 11 rfl rfl)
theorem dX4_isAsked_14 : decode cX4_isAsked 14 = .ok (.goto 10, 3) := dk_167 0 10 (dk_at dksX4_isAsked_0 14 rfl rfl)
theorem dX4_isAsked_17 : decode cX4_isAsked 17 = .ok (.iload_n 1, 1) := dk_27 (dk_at dksX4_isAsked_0 17 rfl rfl)
theorem dX4_isAsked_18 : decode cX4_isAsked 18 = .ok (.iconst 4, 1) := dk_7 (dk_at dksX4_isAsked_0 18 rfl rfl)
theorem dX4_isAsked_19 : decode cX4_isAsked 19 = .ok (.bipush 7, 2) := dk_16 7 (dk_at dksX4_isAsked_0 19 rfl rfl)
theorem dX4_isAsked_21 : decode cX4_isAsked 21 = .ok (.invokestatic 68, 3) := dk_184 0 68 (dk_at dksX4_isAsked_0 21 rfl rfl)
theorem dX4_isAsked_24 : decode cX4_isAsked 24 = .ok (.ireturn, 1) := dk_172 (dk_at dksX4_isAsked_1 0 rfl rfl)
def dkwX4_stands_1 : List UInt8 := [160, 0, 7, 42, 182, 0, 218, 177]
abbrev dktX4_stands_1 : List UInt8 := dkwX4_stands_1 ++ []
def dkwX4_stands_0 : List UInt8 := [27, 5, 162, 0, 10, 42, 182, 0, 215, 167, 0, 7, 42, 182, 0, 221, 27, 4, 159, 0, 8, 27, 5]
abbrev dktX4_stands_0 : List UInt8 := dkwX4_stands_0 ++ dktX4_stands_1
theorem dksX4_stands_0 : cX4_stands.data.toList.drop 0 = dktX4_stands_0 := by decide +kernel
theorem dksX4_stands_1 : cX4_stands.data.toList.drop 23 = dktX4_stands_1 := dk_seg dksX4_stands_0 23 rfl rfl
theorem dX4_stands_0 : decode cX4_stands 0 = .ok (.iload_n 1, 1) := dk_27 (dk_at dksX4_stands_0 0 rfl rfl)
theorem dX4_stands_1 : decode cX4_stands 1 = .ok (.iconst 2, 1) := dk_5 (dk_at dksX4_stands_0 1 rfl rfl)
theorem dX4_stands_2 : decode cX4_stands 2 = .ok (.if_icmp .ge 10, 3) := dk_162 0 10 (dk_at dksX4_stands_0 2 rfl rfl)
theorem dX4_stands_5 : decode cX4_stands 5 = .ok (.aload_n 0, 1) := dk_42 (dk_at dksX4_stands_0 5 rfl rfl)
theorem dX4_stands_6 : decode cX4_stands 6 = .ok (.invokevirtual 215, 3) := dk_182 0 215 (dk_at dksX4_stands_0 6 rfl rfl)
theorem dX4_stands_9 : decode cX4_stands 9 = .ok (.goto 7, 3) := dk_167 0 7 (dk_at dksX4_stands_0 9 rfl rfl)
theorem dX4_stands_12 : decode cX4_stands 12 = .ok (.aload_n 0, 1) := dk_42 (dk_at dksX4_stands_0 12 rfl rfl)
theorem dX4_stands_13 : decode cX4_stands 13 = .ok (.invokevirtual 221, 3) := dk_182 0 221 (dk_at dksX4_stands_0 13 rfl rfl)
theorem dX4_stands_16 : decode cX4_stands 16 = .ok (.iload_n 1, 1) := dk_27 (dk_at dksX4_stands_0 16 rfl rfl)
theorem dX4_stands_17 : decode cX4_stands 17 = .ok (.iconst 1, 1) := dk_4 (dk_at dksX4_stands_0 17 rfl rfl)
theorem dX4_stands_18 : decode cX4_stands 18 = .ok (.if_icmp .eq 8, 3) := dk_159 0 8 (dk_at dksX4_stands_0 18 rfl rfl)
theorem dX4_stands_21 : decode cX4_stands 21 = .ok (.iload_n 1, 1) := dk_27 (dk_at dksX4_stands_0 21 rfl rfl)
theorem dX4_stands_22 : decode cX4_stands 22 = .ok (.iconst 2, 1) := dk_5 (dk_at dksX4_stands_0 22 rfl rfl)
theorem dX4_stands_23 : decode cX4_stands 23 = .ok (.if_icmp .ne 7, 3) := dk_160 0 7 (dk_at dksX4_stands_1 0 rfl rfl)
theorem dX4_stands_26 : decode cX4_stands 26 = .ok (.aload_n 0, 1) := dk_42 (dk_at dksX4_stands_1 3 rfl rfl)
theorem dX4_stands_27 : decode cX4_stands 27 = .ok (.invokevirtual 218, 3) := dk_182 0 218 (dk_at dksX4_stands_1 4 rfl rfl)
theorem dX4_stands_30 : decode cX4_stands 30 = .ok (.return_, 1) := dk_177 (dk_at dksX4_stands_1 7 rfl rfl)
def dkwX4_panic_3 : List UInt8 := [4, 42, 180, 0, 7, 4, 46, 120, 4, 100, 181, 0, 184, 177]
abbrev dktX4_panic_3 : List UInt8 := dkwX4_panic_3 ++ []
def dkwX4_panic_2 : List UInt8 := [182, 0, 202, 28, 162, 0, 11, 42, 27, 182, 0, 202, 167, 0, 4, 28, 79, 132, 1, 1, 167, 255, 194, 42]
abbrev dktX4_panic_2 : List UInt8 := dkwX4_panic_2 ++ dktX4_panic_3
def dkwX4_panic_1 : List UInt8 := [167, 0, 4, 3, 61, 42, 180, 0, 22, 27, 27, 42, 180, 0, 7, 3, 46, 162, 0, 20, 42, 27]
abbrev dktX4_panic_1 : List UInt8 := dkwX4_panic_1 ++ dktX4_panic_2
def dkwX4_panic_0 : List UInt8 := [3, 60, 27, 7, 162, 0, 63, 27, 42, 180, 0, 7, 3, 46, 162, 0, 11, 42, 27, 182, 0, 205]
abbrev dktX4_panic_0 : List UInt8 := dkwX4_panic_0 ++ dktX4_panic_1
theorem dksX4_panic_0 : cX4_panic.data.toList.drop 0 = dktX4_panic_0 := by decide +kernel
theorem dksX4_panic_1 : cX4_panic.data.toList.drop 22 = dktX4_panic_1 := dk_seg dksX4_panic_0 22 rfl rfl
theorem dksX4_panic_2 : cX4_panic.data.toList.drop 44 = dktX4_panic_2 := dk_seg dksX4_panic_1 22 rfl rfl
theorem dksX4_panic_3 : cX4_panic.data.toList.drop 68 = dktX4_panic_3 := dk_seg dksX4_panic_2 24 rfl rfl
theorem dX4_panic_0 : decode cX4_panic 0 = .ok (.iconst 0, 1) := dk_3 (dk_at dksX4_panic_0 0 rfl rfl)
theorem dX4_panic_1 : decode cX4_panic 1 = .ok (.istore_n 1, 1) := dk_60 (dk_at dksX4_panic_0 1 rfl rfl)
theorem dX4_panic_2 : decode cX4_panic 2 = .ok (.iload_n 1, 1) := dk_27 (dk_at dksX4_panic_0 2 rfl rfl)
theorem dX4_panic_3 : decode cX4_panic 3 = .ok (.iconst 4, 1) := dk_7 (dk_at dksX4_panic_0 3 rfl rfl)
theorem dX4_panic_4 : decode cX4_panic 4 = .ok (.if_icmp .ge 63, 3) := dk_162 0 63 (dk_at dksX4_panic_0 4 rfl rfl)
theorem dX4_panic_7 : decode cX4_panic 7 = .ok (.iload_n 1, 1) := dk_27 (dk_at dksX4_panic_0 7 rfl rfl)
theorem dX4_panic_8 : decode cX4_panic 8 = .ok (.aload_n 0, 1) := dk_42 (dk_at dksX4_panic_0 8 rfl rfl)
theorem dX4_panic_9 : decode cX4_panic 9 = .ok (.getfield 7, 3) := dk_180 0 7 (dk_at dksX4_panic_0 9 rfl rfl)
theorem dX4_panic_12 : decode cX4_panic 12 = .ok (.iconst 0, 1) := dk_3 (dk_at dksX4_panic_0 12 rfl rfl)
theorem dX4_panic_13 : decode cX4_panic 13 = .ok (.iaload, 1) := dk_46 (dk_at dksX4_panic_0 13 rfl rfl)
theorem dX4_panic_14 : decode cX4_panic 14 = .ok (.if_icmp .ge 11, 3) := dk_162 0 11 (dk_at dksX4_panic_0 14 rfl rfl)
theorem dX4_panic_17 : decode cX4_panic 17 = .ok (.aload_n 0, 1) := dk_42 (dk_at dksX4_panic_0 17 rfl rfl)
theorem dX4_panic_18 : decode cX4_panic 18 = .ok (.iload_n 1, 1) := dk_27 (dk_at dksX4_panic_0 18 rfl rfl)
theorem dX4_panic_19 : decode cX4_panic 19 = .ok (.invokevirtual 205, 3) := dk_182 0 205 (dk_at dksX4_panic_0 19 rfl rfl)
theorem dX4_panic_22 : decode cX4_panic 22 = .ok (.goto 4, 3) := dk_167 0 4 (dk_at dksX4_panic_1 0 rfl rfl)
theorem dX4_panic_25 : decode cX4_panic 25 = .ok (.iconst 0, 1) := dk_3 (dk_at dksX4_panic_1 3 rfl rfl)
theorem dX4_panic_26 : decode cX4_panic 26 = .ok (.istore_n 2, 1) := dk_61 (dk_at dksX4_panic_1 4 rfl rfl)
theorem dX4_panic_27 : decode cX4_panic 27 = .ok (.aload_n 0, 1) := dk_42 (dk_at dksX4_panic_1 5 rfl rfl)
theorem dX4_panic_28 : decode cX4_panic 28 = .ok (.getfield 22, 3) := dk_180 0 22 (dk_at dksX4_panic_1 6 rfl rfl)
theorem dX4_panic_31 : decode cX4_panic 31 = .ok (.iload_n 1, 1) := dk_27 (dk_at dksX4_panic_1 9 rfl rfl)
theorem dX4_panic_32 : decode cX4_panic 32 = .ok (.iload_n 1, 1) := dk_27 (dk_at dksX4_panic_1 10 rfl rfl)
theorem dX4_panic_33 : decode cX4_panic 33 = .ok (.aload_n 0, 1) := dk_42 (dk_at dksX4_panic_1 11 rfl rfl)
theorem dX4_panic_34 : decode cX4_panic 34 = .ok (.getfield 7, 3) := dk_180 0 7 (dk_at dksX4_panic_1 12 rfl rfl)
theorem dX4_panic_37 : decode cX4_panic 37 = .ok (.iconst 0, 1) := dk_3 (dk_at dksX4_panic_1 15 rfl rfl)
theorem dX4_panic_38 : decode cX4_panic 38 = .ok (.iaload, 1) := dk_46 (dk_at dksX4_panic_1 16 rfl rfl)
theorem dX4_panic_39 : decode cX4_panic 39 = .ok (.if_icmp .ge 20, 3) := dk_162 0 20 (dk_at dksX4_panic_1 17 rfl rfl)
theorem dX4_panic_42 : decode cX4_panic 42 = .ok (.aload_n 0, 1) := dk_42 (dk_at dksX4_panic_1 20 rfl rfl)
theorem dX4_panic_43 : decode cX4_panic 43 = .ok (.iload_n 1, 1) := dk_27 (dk_at dksX4_panic_1 21 rfl rfl)
theorem dX4_panic_44 : decode cX4_panic 44 = .ok (.invokevirtual 202, 3) := dk_182 0 202 (dk_at dksX4_panic_2 0 rfl rfl)
theorem dX4_panic_47 : decode cX4_panic 47 = .ok (.iload_n 2, 1) := dk_28 (dk_at dksX4_panic_2 3 rfl rfl)
theorem dX4_panic_48 : decode cX4_panic 48 = .ok (.if_icmp .ge 11, 3) := dk_162 0 11 (dk_at dksX4_panic_2 4 rfl rfl)
theorem dX4_panic_51 : decode cX4_panic 51 = .ok (.aload_n 0, 1) := dk_42 (dk_at dksX4_panic_2 7 rfl rfl)
theorem dX4_panic_52 : decode cX4_panic 52 = .ok (.iload_n 1, 1) := dk_27 (dk_at dksX4_panic_2 8 rfl rfl)
theorem dX4_panic_53 : decode cX4_panic 53 = .ok (.invokevirtual 202, 3) := dk_182 0 202 (dk_at dksX4_panic_2 9 rfl rfl)
theorem dX4_panic_56 : decode cX4_panic 56 = .ok (.goto 4, 3) := dk_167 0 4 (dk_at dksX4_panic_2 12 rfl rfl)
theorem dX4_panic_59 : decode cX4_panic 59 = .ok (.iload_n 2, 1) := dk_28 (dk_at dksX4_panic_2 15 rfl rfl)
theorem dX4_panic_60 : decode cX4_panic 60 = .ok (.iastore, 1) := dk_79 (dk_at dksX4_panic_2 16 rfl rfl)
theorem dX4_panic_61 : decode cX4_panic 61 = .ok (.iinc 1 1, 3) := dk_132 1 1 (dk_at dksX4_panic_2 17 rfl rfl)
theorem dX4_panic_64 : decode cX4_panic 64 = .ok (.goto (-62), 3) := dk_167 255 194 (dk_at dksX4_panic_2 20 rfl rfl)
theorem dX4_panic_67 : decode cX4_panic 67 = .ok (.aload_n 0, 1) := dk_42 (dk_at dksX4_panic_2 23 rfl rfl)
theorem dX4_panic_68 : decode cX4_panic 68 = .ok (.iconst 1, 1) := dk_4 (dk_at dksX4_panic_3 0 rfl rfl)
theorem dX4_panic_69 : decode cX4_panic 69 = .ok (.aload_n 0, 1) := dk_42 (dk_at dksX4_panic_3 1 rfl rfl)
theorem dX4_panic_70 : decode cX4_panic 70 = .ok (.getfield 7, 3) := dk_180 0 7 (dk_at dksX4_panic_3 2 rfl rfl)
theorem dX4_panic_73 : decode cX4_panic 73 = .ok (.iconst 1, 1) := dk_4 (dk_at dksX4_panic_3 5 rfl rfl)
theorem dX4_panic_74 : decode cX4_panic 74 = .ok (.iaload, 1) := dk_46 (dk_at dksX4_panic_3 6 rfl rfl)
theorem dX4_panic_75 : decode cX4_panic 75 = .ok (.ishl, 1) := dk_120 (dk_at dksX4_panic_3 7 rfl rfl)
theorem dX4_panic_76 : decode cX4_panic 76 = .ok (.iconst 1, 1) := dk_4 (dk_at dksX4_panic_3 8 rfl rfl)
theorem dX4_panic_77 : decode cX4_panic 77 = .ok (.isub, 1) := dk_100 (dk_at dksX4_panic_3 9 rfl rfl)
theorem dX4_panic_78 : decode cX4_panic 78 = .ok (.putfield 184, 3) := dk_181 0 184 (dk_at dksX4_panic_3 10 rfl rfl)
theorem dX4_panic_81 : decode cX4_panic 81 = .ok (.return_, 1) := dk_177 (dk_at dksX4_panic_3 13 rfl rfl)
def dkwX4_rounds_0 : List UInt8 := [42, 182, 0, 252, 42, 27, 153, 0, 7, 5, 167, 0, 4, 4, 182, 1, 14, 42, 180, 0, 208, 172]
abbrev dktX4_rounds_0 : List UInt8 := dkwX4_rounds_0 ++ []
theorem dksX4_rounds_0 : cX4_rounds.data.toList.drop 0 = dktX4_rounds_0 := by decide +kernel
theorem dX4_rounds_0 : decode cX4_rounds 0 = .ok (.aload_n 0, 1) := dk_42 (dk_at dksX4_rounds_0 0 rfl rfl)
theorem dX4_rounds_1 : decode cX4_rounds 1 = .ok (.invokevirtual 252, 3) := dk_182 0 252 (dk_at dksX4_rounds_0 1 rfl rfl)
theorem dX4_rounds_4 : decode cX4_rounds 4 = .ok (.aload_n 0, 1) := dk_42 (dk_at dksX4_rounds_0 4 rfl rfl)
theorem dX4_rounds_5 : decode cX4_rounds 5 = .ok (.iload_n 1, 1) := dk_27 (dk_at dksX4_rounds_0 5 rfl rfl)
theorem dX4_rounds_6 : decode cX4_rounds 6 = .ok (.ifCond .eq 7, 3) := dk_153 0 7 (dk_at dksX4_rounds_0 6 rfl rfl)
theorem dX4_rounds_9 : decode cX4_rounds 9 = .ok (.iconst 2, 1) := dk_5 (dk_at dksX4_rounds_0 9 rfl rfl)
theorem dX4_rounds_10 : decode cX4_rounds 10 = .ok (.goto 4, 3) := dk_167 0 4 (dk_at dksX4_rounds_0 10 rfl rfl)
theorem dX4_rounds_13 : decode cX4_rounds 13 = .ok (.iconst 1, 1) := dk_4 (dk_at dksX4_rounds_0 13 rfl rfl)
theorem dX4_rounds_14 : decode cX4_rounds 14 = .ok (.invokevirtual 270, 3) := dk_182 1 14 (dk_at dksX4_rounds_0 14 rfl rfl)
theorem dX4_rounds_17 : decode cX4_rounds 17 = .ok (.aload_n 0, 1) := dk_42 (dk_at dksX4_rounds_0 17 rfl rfl)
theorem dX4_rounds_18 : decode cX4_rounds 18 = .ok (.getfield 208, 3) := dk_180 0 208 (dk_at dksX4_rounds_0 18 rfl rfl)
theorem dX4_rounds_21 : decode cX4_rounds 21 = .ok (.ireturn, 1) := dk_172 (dk_at dksX4_rounds_0 21 rfl rfl)
def dkwX4_price_1 : List UInt8 := [27, 182, 1, 14, 42, 28, 42, 180, 0, 22, 28, 46, 182, 0, 178, 172]
abbrev dktX4_price_1 : List UInt8 := dkwX4_price_1 ++ []
def dkwX4_price_0 : List UInt8 := [27, 3, 6, 184, 0, 68, 153, 0, 11, 42, 28, 182, 0, 224, 154, 0, 5, 2, 172, 42, 182, 0, 252, 42]
abbrev dktX4_price_0 : List UInt8 := dkwX4_price_0 ++ dktX4_price_1
theorem dksX4_price_0 : cX4_price.data.toList.drop 0 = dktX4_price_0 := by decide +kernel
theorem dksX4_price_1 : cX4_price.data.toList.drop 24 = dktX4_price_1 := dk_seg dksX4_price_0 24 rfl rfl
theorem dX4_price_0 : decode cX4_price 0 = .ok (.iload_n 1, 1) := dk_27 (dk_at dksX4_price_0 0 rfl rfl)
theorem dX4_price_1 : decode cX4_price 1 = .ok (.iconst 0, 1) := dk_3 (dk_at dksX4_price_0 1 rfl rfl)
theorem dX4_price_2 : decode cX4_price 2 = .ok (.iconst 3, 1) := dk_6 (dk_at dksX4_price_0 2 rfl rfl)
theorem dX4_price_3 : decode cX4_price 3 = .ok (.invokestatic 68, 3) := dk_184 0 68 (dk_at dksX4_price_0 3 rfl rfl)
theorem dX4_price_6 : decode cX4_price 6 = .ok (.ifCond .eq 11, 3) := dk_153 0 11 (dk_at dksX4_price_0 6 rfl rfl)
theorem dX4_price_9 : decode cX4_price 9 = .ok (.aload_n 0, 1) := dk_42 (dk_at dksX4_price_0 9 rfl rfl)
theorem dX4_price_10 : decode cX4_price 10 = .ok (.iload_n 2, 1) := dk_28 (dk_at dksX4_price_0 10 rfl rfl)
theorem dX4_price_11 : decode cX4_price 11 = .ok (.invokevirtual 224, 3) := dk_182 0 224 (dk_at dksX4_price_0 11 rfl rfl)
theorem dX4_price_14 : decode cX4_price 14 = .ok (.ifCond .ne 5, 3) := dk_154 0 5 (dk_at dksX4_price_0 14 rfl rfl)
theorem dX4_price_17 : decode cX4_price 17 = .ok (.iconst (-1), 1) := dk_2 (dk_at dksX4_price_0 17 rfl rfl)
theorem dX4_price_18 : decode cX4_price 18 = .ok (.ireturn, 1) := dk_172 (dk_at dksX4_price_0 18 rfl rfl)
theorem dX4_price_19 : decode cX4_price 19 = .ok (.aload_n 0, 1) := dk_42 (dk_at dksX4_price_0 19 rfl rfl)
theorem dX4_price_20 : decode cX4_price 20 = .ok (.invokevirtual 252, 3) := dk_182 0 252 (dk_at dksX4_price_0 20 rfl rfl)
theorem dX4_price_23 : decode cX4_price 23 = .ok (.aload_n 0, 1) := dk_42 (dk_at dksX4_price_0 23 rfl rfl)
theorem dX4_price_24 : decode cX4_price 24 = .ok (.iload_n 1, 1) := dk_27 (dk_at dksX4_price_1 0 rfl rfl)
theorem dX4_price_25 : decode cX4_price 25 = .ok (.invokevirtual 270, 3) := dk_182 1 14 (dk_at dksX4_price_1 1 rfl rfl)
theorem dX4_price_28 : decode cX4_price 28 = .ok (.aload_n 0, 1) := dk_42 (dk_at dksX4_price_1 4 rfl rfl)
theorem dX4_price_29 : decode cX4_price 29 = .ok (.iload_n 2, 1) := dk_28 (dk_at dksX4_price_1 5 rfl rfl)
theorem dX4_price_30 : decode cX4_price 30 = .ok (.aload_n 0, 1) := dk_42 (dk_at dksX4_price_1 6 rfl rfl)
theorem dX4_price_31 : decode cX4_price 31 = .ok (.getfield 22, 3) := dk_180 0 22 (dk_at dksX4_price_1 7 rfl rfl)
theorem dX4_price_34 : decode cX4_price 34 = .ok (.iload_n 2, 1) := dk_28 (dk_at dksX4_price_1 10 rfl rfl)
theorem dX4_price_35 : decode cX4_price 35 = .ok (.iaload, 1) := dk_46 (dk_at dksX4_price_1 11 rfl rfl)
theorem dX4_price_36 : decode cX4_price 36 = .ok (.invokevirtual 178, 3) := dk_182 0 178 (dk_at dksX4_price_1 12 rfl rfl)
theorem dX4_price_39 : decode cX4_price 39 = .ok (.ireturn, 1) := dk_172 (dk_at dksX4_price_1 15 rfl rfl)
def dkwX4_worth_1 : List UInt8 := [182, 0, 252, 42, 27, 182, 1, 14, 42, 28, 182, 0, 187, 172]
abbrev dktX4_worth_1 : List UInt8 := dkwX4_worth_1 ++ []
def dkwX4_worth_0 : List UInt8 := [27, 3, 6, 184, 0, 68, 153, 0, 11, 42, 28, 182, 0, 237, 154, 0, 7, 19, 1, 17, 172, 42]
abbrev dktX4_worth_0 : List UInt8 := dkwX4_worth_0 ++ dktX4_worth_1
theorem dksX4_worth_0 : cX4_worth.data.toList.drop 0 = dktX4_worth_0 := by decide +kernel
theorem dksX4_worth_1 : cX4_worth.data.toList.drop 22 = dktX4_worth_1 := dk_seg dksX4_worth_0 22 rfl rfl
theorem dX4_worth_0 : decode cX4_worth 0 = .ok (.iload_n 1, 1) := dk_27 (dk_at dksX4_worth_0 0 rfl rfl)
theorem dX4_worth_1 : decode cX4_worth 1 = .ok (.iconst 0, 1) := dk_3 (dk_at dksX4_worth_0 1 rfl rfl)
theorem dX4_worth_2 : decode cX4_worth 2 = .ok (.iconst 3, 1) := dk_6 (dk_at dksX4_worth_0 2 rfl rfl)
theorem dX4_worth_3 : decode cX4_worth 3 = .ok (.invokestatic 68, 3) := dk_184 0 68 (dk_at dksX4_worth_0 3 rfl rfl)
theorem dX4_worth_6 : decode cX4_worth 6 = .ok (.ifCond .eq 11, 3) := dk_153 0 11 (dk_at dksX4_worth_0 6 rfl rfl)
theorem dX4_worth_9 : decode cX4_worth 9 = .ok (.aload_n 0, 1) := dk_42 (dk_at dksX4_worth_0 9 rfl rfl)
theorem dX4_worth_10 : decode cX4_worth 10 = .ok (.iload_n 2, 1) := dk_28 (dk_at dksX4_worth_0 10 rfl rfl)
theorem dX4_worth_11 : decode cX4_worth 11 = .ok (.invokevirtual 237, 3) := dk_182 0 237 (dk_at dksX4_worth_0 11 rfl rfl)
theorem dX4_worth_14 : decode cX4_worth 14 = .ok (.ifCond .ne 7, 3) := dk_154 0 7 (dk_at dksX4_worth_0 14 rfl rfl)
theorem dX4_worth_17 : decode cX4_worth 17 = .ok (.ldc_w 273, 3) := dk_19 1 17 (dk_at dksX4_worth_0 17 rfl rfl)
theorem dX4_worth_20 : decode cX4_worth 20 = .ok (.ireturn, 1) := dk_172 (dk_at dksX4_worth_0 20 rfl rfl)
theorem dX4_worth_21 : decode cX4_worth 21 = .ok (.aload_n 0, 1) := dk_42 (dk_at dksX4_worth_0 21 rfl rfl)
theorem dX4_worth_22 : decode cX4_worth 22 = .ok (.invokevirtual 252, 3) := dk_182 0 252 (dk_at dksX4_worth_1 0 rfl rfl)
theorem dX4_worth_25 : decode cX4_worth 25 = .ok (.aload_n 0, 1) := dk_42 (dk_at dksX4_worth_1 3 rfl rfl)
theorem dX4_worth_26 : decode cX4_worth 26 = .ok (.iload_n 1, 1) := dk_27 (dk_at dksX4_worth_1 4 rfl rfl)
theorem dX4_worth_27 : decode cX4_worth 27 = .ok (.invokevirtual 270, 3) := dk_182 1 14 (dk_at dksX4_worth_1 5 rfl rfl)
theorem dX4_worth_30 : decode cX4_worth 30 = .ok (.aload_n 0, 1) := dk_42 (dk_at dksX4_worth_1 8 rfl rfl)
theorem dX4_worth_31 : decode cX4_worth 31 = .ok (.iload_n 2, 1) := dk_28 (dk_at dksX4_worth_1 9 rfl rfl)
theorem dX4_worth_32 : decode cX4_worth 32 = .ok (.invokevirtual 187, 3) := dk_182 0 187 (dk_at dksX4_worth_1 10 rfl rfl)
theorem dX4_worth_35 : decode cX4_worth 35 = .ok (.ireturn, 1) := dk_172 (dk_at dksX4_worth_1 13 rfl rfl)
def dkwX4_mustSell_2 : List UInt8 := [29, 2, 160, 0, 8, 21, 4, 167, 0, 11, 42, 28, 29, 21, 4, 182, 0, 199, 172]
abbrev dktX4_mustSell_2 : List UInt8 := dkwX4_mustSell_2 ++ []
def dkwX4_mustSell_1 : List UInt8 := [182, 0, 224, 154, 0, 5, 2, 172, 42, 182, 0, 252, 42, 27, 182, 1, 14, 42, 28, 182, 0, 196, 54, 4]
abbrev dktX4_mustSell_1 : List UInt8 := dkwX4_mustSell_1 ++ dktX4_mustSell_2
def dkwX4_mustSell_0 : List UInt8 := [27, 3, 6, 184, 0, 68, 153, 0, 24, 42, 28, 182, 0, 237, 153, 0, 16, 29, 2, 159, 0, 13, 42, 29]
abbrev dktX4_mustSell_0 : List UInt8 := dkwX4_mustSell_0 ++ dktX4_mustSell_1
theorem dksX4_mustSell_0 : cX4_mustSell.data.toList.drop 0 = dktX4_mustSell_0 := by decide +kernel
theorem dksX4_mustSell_1 : cX4_mustSell.data.toList.drop 24 = dktX4_mustSell_1 := dk_seg dksX4_mustSell_0 24 rfl rfl
theorem dksX4_mustSell_2 : cX4_mustSell.data.toList.drop 48 = dktX4_mustSell_2 := dk_seg dksX4_mustSell_1 24 rfl rfl
theorem dX4_mustSell_0 : decode cX4_mustSell 0 = .ok (.iload_n 1, 1) := dk_27 (dk_at dksX4_mustSell_0 0 rfl rfl)
theorem dX4_mustSell_1 : decode cX4_mustSell 1 = .ok (.iconst 0, 1) := dk_3 (dk_at dksX4_mustSell_0 1 rfl rfl)
theorem dX4_mustSell_2 : decode cX4_mustSell 2 = .ok (.iconst 3, 1) := dk_6 (dk_at dksX4_mustSell_0 2 rfl rfl)
theorem dX4_mustSell_3 : decode cX4_mustSell 3 = .ok (.invokestatic 68, 3) := dk_184 0 68 (dk_at dksX4_mustSell_0 3 rfl rfl)
theorem dX4_mustSell_6 : decode cX4_mustSell 6 = .ok (.ifCond .eq 24, 3) := dk_153 0 24 (dk_at dksX4_mustSell_0 6 rfl rfl)
theorem dX4_mustSell_9 : decode cX4_mustSell 9 = .ok (.aload_n 0, 1) := dk_42 (dk_at dksX4_mustSell_0 9 rfl rfl)
theorem dX4_mustSell_10 : decode cX4_mustSell 10 = .ok (.iload_n 2, 1) := dk_28 (dk_at dksX4_mustSell_0 10 rfl rfl)
theorem dX4_mustSell_11 : decode cX4_mustSell 11 = .ok (.invokevirtual 237, 3) := dk_182 0 237 (dk_at dksX4_mustSell_0 11 rfl rfl)
theorem dX4_mustSell_14 : decode cX4_mustSell 14 = .ok (.ifCond .eq 16, 3) := dk_153 0 16 (dk_at dksX4_mustSell_0 14 rfl rfl)
theorem dX4_mustSell_17 : decode cX4_mustSell 17 = .ok (.iload_n 3, 1) := dk_29 (dk_at dksX4_mustSell_0 17 rfl rfl)
theorem dX4_mustSell_18 : decode cX4_mustSell 18 = .ok (.iconst (-1), 1) := dk_2 (dk_at dksX4_mustSell_0 18 rfl rfl)
theorem dX4_mustSell_19 : decode cX4_mustSell 19 = .ok (.if_icmp .eq 13, 3) := dk_159 0 13 (dk_at dksX4_mustSell_0 19 rfl rfl)
theorem dX4_mustSell_22 : decode cX4_mustSell 22 = .ok (.aload_n 0, 1) := dk_42 (dk_at dksX4_mustSell_0 22 rfl rfl)
theorem dX4_mustSell_23 : decode cX4_mustSell 23 = .ok (.iload_n 3, 1) := dk_29 (dk_at dksX4_mustSell_0 23 rfl rfl)
theorem dX4_mustSell_24 : decode cX4_mustSell 24 = .ok (.invokevirtual 224, 3) := dk_182 0 224 (dk_at dksX4_mustSell_1 0 rfl rfl)
theorem dX4_mustSell_27 : decode cX4_mustSell 27 = .ok (.ifCond .ne 5, 3) := dk_154 0 5 (dk_at dksX4_mustSell_1 3 rfl rfl)
theorem dX4_mustSell_30 : decode cX4_mustSell 30 = .ok (.iconst (-1), 1) := dk_2 (dk_at dksX4_mustSell_1 6 rfl rfl)
theorem dX4_mustSell_31 : decode cX4_mustSell 31 = .ok (.ireturn, 1) := dk_172 (dk_at dksX4_mustSell_1 7 rfl rfl)
theorem dX4_mustSell_32 : decode cX4_mustSell 32 = .ok (.aload_n 0, 1) := dk_42 (dk_at dksX4_mustSell_1 8 rfl rfl)
theorem dX4_mustSell_33 : decode cX4_mustSell 33 = .ok (.invokevirtual 252, 3) := dk_182 0 252 (dk_at dksX4_mustSell_1 9 rfl rfl)
theorem dX4_mustSell_36 : decode cX4_mustSell 36 = .ok (.aload_n 0, 1) := dk_42 (dk_at dksX4_mustSell_1 12 rfl rfl)
theorem dX4_mustSell_37 : decode cX4_mustSell 37 = .ok (.iload_n 1, 1) := dk_27 (dk_at dksX4_mustSell_1 13 rfl rfl)
theorem dX4_mustSell_38 : decode cX4_mustSell 38 = .ok (.invokevirtual 270, 3) := dk_182 1 14 (dk_at dksX4_mustSell_1 14 rfl rfl)
theorem dX4_mustSell_41 : decode cX4_mustSell 41 = .ok (.aload_n 0, 1) := dk_42 (dk_at dksX4_mustSell_1 17 rfl rfl)
theorem dX4_mustSell_42 : decode cX4_mustSell 42 = .ok (.iload_n 2, 1) := dk_28 (dk_at dksX4_mustSell_1 18 rfl rfl)
theorem dX4_mustSell_43 : decode cX4_mustSell 43 = .ok (.invokevirtual 196, 3) := dk_182 0 196 (dk_at dksX4_mustSell_1 19 rfl rfl)
theorem dX4_mustSell_46 : decode cX4_mustSell 46 = .ok (.istore 4, 2) := dk_54 4 (dk_at dksX4_mustSell_1 22 rfl rfl)
theorem dX4_mustSell_48 : decode cX4_mustSell 48 = .ok (.iload_n 3, 1) := dk_29 (dk_at dksX4_mustSell_2 0 rfl rfl)
theorem dX4_mustSell_49 : decode cX4_mustSell 49 = .ok (.iconst (-1), 1) := dk_2 (dk_at dksX4_mustSell_2 1 rfl rfl)
theorem dX4_mustSell_50 : decode cX4_mustSell 50 = .ok (.if_icmp .ne 8, 3) := dk_160 0 8 (dk_at dksX4_mustSell_2 2 rfl rfl)
theorem dX4_mustSell_53 : decode cX4_mustSell 53 = .ok (.iload 4, 2) := dk_21 4 (dk_at dksX4_mustSell_2 5 rfl rfl)
theorem dX4_mustSell_55 : decode cX4_mustSell 55 = .ok (.goto 11, 3) := dk_167 0 11 (dk_at dksX4_mustSell_2 7 rfl rfl)
theorem dX4_mustSell_58 : decode cX4_mustSell 58 = .ok (.aload_n 0, 1) := dk_42 (dk_at dksX4_mustSell_2 10 rfl rfl)
theorem dX4_mustSell_59 : decode cX4_mustSell 59 = .ok (.iload_n 2, 1) := dk_28 (dk_at dksX4_mustSell_2 11 rfl rfl)
theorem dX4_mustSell_60 : decode cX4_mustSell 60 = .ok (.iload_n 3, 1) := dk_29 (dk_at dksX4_mustSell_2 12 rfl rfl)
theorem dX4_mustSell_61 : decode cX4_mustSell 61 = .ok (.iload 4, 2) := dk_21 4 (dk_at dksX4_mustSell_2 13 rfl rfl)
theorem dX4_mustSell_63 : decode cX4_mustSell 63 = .ok (.invokevirtual 199, 3) := dk_182 0 199 (dk_at dksX4_mustSell_2 15 rfl rfl)
theorem dX4_mustSell_66 : decode cX4_mustSell 66 = .ok (.ireturn, 1) := dk_172 (dk_at dksX4_mustSell_2 18 rfl rfl)
def dkwX4_round_1 : List UInt8 := [182, 1, 18, 42, 28, 182, 1, 2, 172]
abbrev dktX4_round_1 : List UInt8 := dkwX4_round_1 ++ []
def dkwX4_round_0 : List UInt8 := [27, 3, 17, 7, 208, 184, 0, 68, 153, 0, 11, 42, 28, 182, 1, 11, 154, 0, 5, 2, 172, 42, 27]
abbrev dktX4_round_0 : List UInt8 := dkwX4_round_0 ++ dktX4_round_1
theorem dksX4_round_0 : cX4_round.data.toList.drop 0 = dktX4_round_0 := by decide +kernel
theorem dksX4_round_1 : cX4_round.data.toList.drop 23 = dktX4_round_1 := dk_seg dksX4_round_0 23 rfl rfl
theorem dX4_round_0 : decode cX4_round 0 = .ok (.iload_n 1, 1) := dk_27 (dk_at dksX4_round_0 0 rfl rfl)
theorem dX4_round_1 : decode cX4_round 1 = .ok (.iconst 0, 1) := dk_3 (dk_at dksX4_round_0 1 rfl rfl)
theorem dX4_round_2 : decode cX4_round 2 = .ok (.sipush 2000, 3) := dk_17 7 208 (dk_at dksX4_round_0 2 rfl rfl)
theorem dX4_round_5 : decode cX4_round 5 = .ok (.invokestatic 68, 3) := dk_184 0 68 (dk_at dksX4_round_0 5 rfl rfl)
theorem dX4_round_8 : decode cX4_round 8 = .ok (.ifCond .eq 11, 3) := dk_153 0 11 (dk_at dksX4_round_0 8 rfl rfl)
theorem dX4_round_11 : decode cX4_round 11 = .ok (.aload_n 0, 1) := dk_42 (dk_at dksX4_round_0 11 rfl rfl)
theorem dX4_round_12 : decode cX4_round 12 = .ok (.iload_n 2, 1) := dk_28 (dk_at dksX4_round_0 12 rfl rfl)
theorem dX4_round_13 : decode cX4_round 13 = .ok (.invokevirtual 267, 3) := dk_182 1 11 (dk_at dksX4_round_0 13 rfl rfl)
theorem dX4_round_16 : decode cX4_round 16 = .ok (.ifCond .ne 5, 3) := dk_154 0 5 (dk_at dksX4_round_0 16 rfl rfl)
theorem dX4_round_19 : decode cX4_round 19 = .ok (.iconst (-1), 1) := dk_2 (dk_at dksX4_round_0 19 rfl rfl)
theorem dX4_round_20 : decode cX4_round 20 = .ok (.ireturn, 1) := dk_172 (dk_at dksX4_round_0 20 rfl rfl)
theorem dX4_round_21 : decode cX4_round 21 = .ok (.aload_n 0, 1) := dk_42 (dk_at dksX4_round_0 21 rfl rfl)
theorem dX4_round_22 : decode cX4_round 22 = .ok (.iload_n 1, 1) := dk_27 (dk_at dksX4_round_0 22 rfl rfl)
theorem dX4_round_23 : decode cX4_round 23 = .ok (.invokevirtual 274, 3) := dk_182 1 18 (dk_at dksX4_round_1 0 rfl rfl)
theorem dX4_round_26 : decode cX4_round 26 = .ok (.aload_n 0, 1) := dk_42 (dk_at dksX4_round_1 3 rfl rfl)
theorem dX4_round_27 : decode cX4_round 27 = .ok (.iload_n 2, 1) := dk_28 (dk_at dksX4_round_1 4 rfl rfl)
theorem dX4_round_28 : decode cX4_round 28 = .ok (.invokevirtual 258, 3) := dk_182 1 2 (dk_at dksX4_round_1 5 rfl rfl)
theorem dX4_round_31 : decode cX4_round 31 = .ok (.ireturn, 1) := dk_172 (dk_at dksX4_round_1 8 rfl rfl)
def dkwX4_goesTo_1 : List UInt8 := [182, 0, 211, 61, 132, 3, 1, 167, 255, 239, 177]
abbrev dktX4_goesTo_1 : List UInt8 := dkwX4_goesTo_1 ++ []
def dkwX4_goesTo_0 : List UInt8 := [42, 182, 0, 252, 42, 182, 0, 215, 4, 61, 3, 62, 29, 27, 162, 0, 18, 28, 153, 0, 14, 42]
abbrev dktX4_goesTo_0 : List UInt8 := dkwX4_goesTo_0 ++ dktX4_goesTo_1
theorem dksX4_goesTo_0 : cX4_goesTo.data.toList.drop 0 = dktX4_goesTo_0 := by decide +kernel
theorem dksX4_goesTo_1 : cX4_goesTo.data.toList.drop 22 = dktX4_goesTo_1 := dk_seg dksX4_goesTo_0 22 rfl rfl
theorem dX4_goesTo_0 : decode cX4_goesTo 0 = .ok (.aload_n 0, 1) := dk_42 (dk_at dksX4_goesTo_0 0 rfl rfl)
theorem dX4_goesTo_1 : decode cX4_goesTo 1 = .ok (.invokevirtual 252, 3) := dk_182 0 252 (dk_at dksX4_goesTo_0 1 rfl rfl)
theorem dX4_goesTo_4 : decode cX4_goesTo 4 = .ok (.aload_n 0, 1) := dk_42 (dk_at dksX4_goesTo_0 4 rfl rfl)
theorem dX4_goesTo_5 : decode cX4_goesTo 5 = .ok (.invokevirtual 215, 3) := dk_182 0 215 (dk_at dksX4_goesTo_0 5 rfl rfl)
theorem dX4_goesTo_8 : decode cX4_goesTo 8 = .ok (.iconst 1, 1) := dk_4 (dk_at dksX4_goesTo_0 8 rfl rfl)
theorem dX4_goesTo_9 : decode cX4_goesTo 9 = .ok (.istore_n 2, 1) := dk_61 (dk_at dksX4_goesTo_0 9 rfl rfl)
theorem dX4_goesTo_10 : decode cX4_goesTo 10 = .ok (.iconst 0, 1) := dk_3 (dk_at dksX4_goesTo_0 10 rfl rfl)
theorem dX4_goesTo_11 : decode cX4_goesTo 11 = .ok (.istore_n 3, 1) := dk_62 (dk_at dksX4_goesTo_0 11 rfl rfl)
theorem dX4_goesTo_12 : decode cX4_goesTo 12 = .ok (.iload_n 3, 1) := dk_29 (dk_at dksX4_goesTo_0 12 rfl rfl)
theorem dX4_goesTo_13 : decode cX4_goesTo 13 = .ok (.iload_n 1, 1) := dk_27 (dk_at dksX4_goesTo_0 13 rfl rfl)
theorem dX4_goesTo_14 : decode cX4_goesTo 14 = .ok (.if_icmp .ge 18, 3) := dk_162 0 18 (dk_at dksX4_goesTo_0 14 rfl rfl)
theorem dX4_goesTo_17 : decode cX4_goesTo 17 = .ok (.iload_n 2, 1) := dk_28 (dk_at dksX4_goesTo_0 17 rfl rfl)
theorem dX4_goesTo_18 : decode cX4_goesTo 18 = .ok (.ifCond .eq 14, 3) := dk_153 0 14 (dk_at dksX4_goesTo_0 18 rfl rfl)
theorem dX4_goesTo_21 : decode cX4_goesTo 21 = .ok (.aload_n 0, 1) := dk_42 (dk_at dksX4_goesTo_0 21 rfl rfl)
theorem dX4_goesTo_22 : decode cX4_goesTo 22 = .ok (.invokevirtual 211, 3) := dk_182 0 211 (dk_at dksX4_goesTo_1 0 rfl rfl)
theorem dX4_goesTo_25 : decode cX4_goesTo 25 = .ok (.istore_n 2, 1) := dk_61 (dk_at dksX4_goesTo_1 3 rfl rfl)
theorem dX4_goesTo_26 : decode cX4_goesTo 26 = .ok (.iinc 3 1, 3) := dk_132 3 1 (dk_at dksX4_goesTo_1 4 rfl rfl)
theorem dX4_goesTo_29 : decode cX4_goesTo 29 = .ok (.goto (-17), 3) := dk_167 255 239 (dk_at dksX4_goesTo_1 7 rfl rfl)
theorem dX4_goesTo_32 : decode cX4_goesTo 32 = .ok (.return_, 1) := dk_177 (dk_at dksX4_goesTo_1 10 rfl rfl)
def dkwX4_worthIn_1 : List UInt8 := [27, 182, 1, 18, 42, 28, 182, 0, 187, 172]
abbrev dktX4_worthIn_1 : List UInt8 := dkwX4_worthIn_1 ++ []
def dkwX4_worthIn_0 : List UInt8 := [27, 3, 17, 7, 208, 184, 0, 68, 153, 0, 11, 42, 28, 182, 0, 237, 154, 0, 7, 19, 1, 17, 172, 42]
abbrev dktX4_worthIn_0 : List UInt8 := dkwX4_worthIn_0 ++ dktX4_worthIn_1
theorem dksX4_worthIn_0 : cX4_worthIn.data.toList.drop 0 = dktX4_worthIn_0 := by decide +kernel
theorem dksX4_worthIn_1 : cX4_worthIn.data.toList.drop 24 = dktX4_worthIn_1 := dk_seg dksX4_worthIn_0 24 rfl rfl
theorem dX4_worthIn_0 : decode cX4_worthIn 0 = .ok (.iload_n 1, 1) := dk_27 (dk_at dksX4_worthIn_0 0 rfl rfl)
theorem dX4_worthIn_1 : decode cX4_worthIn 1 = .ok (.iconst 0, 1) := dk_3 (dk_at dksX4_worthIn_0 1 rfl rfl)
theorem dX4_worthIn_2 : decode cX4_worthIn 2 = .ok (.sipush 2000, 3) := dk_17 7 208 (dk_at dksX4_worthIn_0 2 rfl rfl)
theorem dX4_worthIn_5 : decode cX4_worthIn 5 = .ok (.invokestatic 68, 3) := dk_184 0 68 (dk_at dksX4_worthIn_0 5 rfl rfl)
theorem dX4_worthIn_8 : decode cX4_worthIn 8 = .ok (.ifCond .eq 11, 3) := dk_153 0 11 (dk_at dksX4_worthIn_0 8 rfl rfl)
theorem dX4_worthIn_11 : decode cX4_worthIn 11 = .ok (.aload_n 0, 1) := dk_42 (dk_at dksX4_worthIn_0 11 rfl rfl)
theorem dX4_worthIn_12 : decode cX4_worthIn 12 = .ok (.iload_n 2, 1) := dk_28 (dk_at dksX4_worthIn_0 12 rfl rfl)
theorem dX4_worthIn_13 : decode cX4_worthIn 13 = .ok (.invokevirtual 237, 3) := dk_182 0 237 (dk_at dksX4_worthIn_0 13 rfl rfl)
theorem dX4_worthIn_16 : decode cX4_worthIn 16 = .ok (.ifCond .ne 7, 3) := dk_154 0 7 (dk_at dksX4_worthIn_0 16 rfl rfl)
theorem dX4_worthIn_19 : decode cX4_worthIn 19 = .ok (.ldc_w 273, 3) := dk_19 1 17 (dk_at dksX4_worthIn_0 19 rfl rfl)
theorem dX4_worthIn_22 : decode cX4_worthIn 22 = .ok (.ireturn, 1) := dk_172 (dk_at dksX4_worthIn_0 22 rfl rfl)
theorem dX4_worthIn_23 : decode cX4_worthIn 23 = .ok (.aload_n 0, 1) := dk_42 (dk_at dksX4_worthIn_0 23 rfl rfl)
theorem dX4_worthIn_24 : decode cX4_worthIn 24 = .ok (.iload_n 1, 1) := dk_27 (dk_at dksX4_worthIn_1 0 rfl rfl)
theorem dX4_worthIn_25 : decode cX4_worthIn 25 = .ok (.invokevirtual 274, 3) := dk_182 1 18 (dk_at dksX4_worthIn_1 1 rfl rfl)
theorem dX4_worthIn_28 : decode cX4_worthIn 28 = .ok (.aload_n 0, 1) := dk_42 (dk_at dksX4_worthIn_1 4 rfl rfl)
theorem dX4_worthIn_29 : decode cX4_worthIn 29 = .ok (.iload_n 2, 1) := dk_28 (dk_at dksX4_worthIn_1 5 rfl rfl)
theorem dX4_worthIn_30 : decode cX4_worthIn 30 = .ok (.invokevirtual 187, 3) := dk_182 0 187 (dk_at dksX4_worthIn_1 6 rfl rfl)
theorem dX4_worthIn_33 : decode cX4_worthIn 33 = .ok (.ireturn, 1) := dk_172 (dk_at dksX4_worthIn_1 9 rfl rfl)
def dkwX4_sharpest_3 : List UInt8 := [132, 4, 1, 167, 255, 207, 27, 172]
abbrev dktX4_sharpest_3 : List UInt8 := dkwX4_sharpest_3 ++ []
def dkwX4_sharpest_2 : List UInt8 := [164, 0, 8, 21, 4, 167, 0, 4, 27, 60, 21, 5, 28, 164, 0, 8, 21, 5, 167, 0, 4, 28, 61]
abbrev dktX4_sharpest_2 : List UInt8 := dkwX4_sharpest_2 ++ dktX4_sharpest_3
def dkwX4_sharpest_1 : List UInt8 := [182, 0, 211, 153, 0, 48, 42, 182, 0, 227, 29, 100, 54, 5, 42, 182, 0, 227, 62, 21, 5, 28]
abbrev dktX4_sharpest_1 : List UInt8 := dkwX4_sharpest_1 ++ dktX4_sharpest_2
def dkwX4_sharpest_0 : List UInt8 := [42, 182, 0, 252, 42, 182, 0, 215, 16, 254, 60, 3, 61, 42, 182, 0, 227, 62, 4, 54, 4, 42]
abbrev dktX4_sharpest_0 : List UInt8 := dkwX4_sharpest_0 ++ dktX4_sharpest_1
theorem dksX4_sharpest_0 : cX4_sharpest.data.toList.drop 0 = dktX4_sharpest_0 := by decide +kernel
theorem dksX4_sharpest_1 : cX4_sharpest.data.toList.drop 22 = dktX4_sharpest_1 := dk_seg dksX4_sharpest_0 22 rfl rfl
theorem dksX4_sharpest_2 : cX4_sharpest.data.toList.drop 44 = dktX4_sharpest_2 := dk_seg dksX4_sharpest_1 22 rfl rfl
theorem dksX4_sharpest_3 : cX4_sharpest.data.toList.drop 67 = dktX4_sharpest_3 := dk_seg dksX4_sharpest_2 23 rfl rfl
theorem dX4_sharpest_0 : decode cX4_sharpest 0 = .ok (.aload_n 0, 1) := dk_42 (dk_at dksX4_sharpest_0 0 rfl rfl)
theorem dX4_sharpest_1 : decode cX4_sharpest 1 = .ok (.invokevirtual 252, 3) := dk_182 0 252 (dk_at dksX4_sharpest_0 1 rfl rfl)
theorem dX4_sharpest_4 : decode cX4_sharpest 4 = .ok (.aload_n 0, 1) := dk_42 (dk_at dksX4_sharpest_0 4 rfl rfl)
theorem dX4_sharpest_5 : decode cX4_sharpest 5 = .ok (.invokevirtual 215, 3) := dk_182 0 215 (dk_at dksX4_sharpest_0 5 rfl rfl)
theorem dX4_sharpest_8 : decode cX4_sharpest 8 = .ok (.bipush (-2), 2) := dk_16 254 (dk_at dksX4_sharpest_0 8 rfl rfl)
theorem dX4_sharpest_10 : decode cX4_sharpest 10 = .ok (.istore_n 1, 1) := dk_60 (dk_at dksX4_sharpest_0 10 rfl rfl)
theorem dX4_sharpest_11 : decode cX4_sharpest 11 = .ok (.iconst 0, 1) := dk_3 (dk_at dksX4_sharpest_0 11 rfl rfl)
theorem dX4_sharpest_12 : decode cX4_sharpest 12 = .ok (.istore_n 2, 1) := dk_61 (dk_at dksX4_sharpest_0 12 rfl rfl)
theorem dX4_sharpest_13 : decode cX4_sharpest 13 = .ok (.aload_n 0, 1) := dk_42 (dk_at dksX4_sharpest_0 13 rfl rfl)
theorem dX4_sharpest_14 : decode cX4_sharpest 14 = .ok (.invokevirtual 227, 3) := dk_182 0 227 (dk_at dksX4_sharpest_0 14 rfl rfl)
theorem dX4_sharpest_17 : decode cX4_sharpest 17 = .ok (.istore_n 3, 1) := dk_62 (dk_at dksX4_sharpest_0 17 rfl rfl)
theorem dX4_sharpest_18 : decode cX4_sharpest 18 = .ok (.iconst 1, 1) := dk_4 (dk_at dksX4_sharpest_0 18 rfl rfl)
theorem dX4_sharpest_19 : decode cX4_sharpest 19 = .ok (.istore 4, 2) := dk_54 4 (dk_at dksX4_sharpest_0 19 rfl rfl)
theorem dX4_sharpest_21 : decode cX4_sharpest 21 = .ok (.aload_n 0, 1) := dk_42 (dk_at dksX4_sharpest_0 21 rfl rfl)
theorem dX4_sharpest_22 : decode cX4_sharpest 22 = .ok (.invokevirtual 211, 3) := dk_182 0 211 (dk_at dksX4_sharpest_1 0 rfl rfl)
theorem dX4_sharpest_25 : decode cX4_sharpest 25 = .ok (.ifCond .eq 48, 3) := dk_153 0 48 (dk_at dksX4_sharpest_1 3 rfl rfl)
theorem dX4_sharpest_28 : decode cX4_sharpest 28 = .ok (.aload_n 0, 1) := dk_42 (dk_at dksX4_sharpest_1 6 rfl rfl)
theorem dX4_sharpest_29 : decode cX4_sharpest 29 = .ok (.invokevirtual 227, 3) := dk_182 0 227 (dk_at dksX4_sharpest_1 7 rfl rfl)
theorem dX4_sharpest_32 : decode cX4_sharpest 32 = .ok (.iload_n 3, 1) := dk_29 (dk_at dksX4_sharpest_1 10 rfl rfl)
theorem dX4_sharpest_33 : decode cX4_sharpest 33 = .ok (.isub, 1) := dk_100 (dk_at dksX4_sharpest_1 11 rfl rfl)
theorem dX4_sharpest_34 : decode cX4_sharpest 34 = .ok (.istore 5, 2) := dk_54 5 (dk_at dksX4_sharpest_1 12 rfl rfl)
theorem dX4_sharpest_36 : decode cX4_sharpest 36 = .ok (.aload_n 0, 1) := dk_42 (dk_at dksX4_sharpest_1 14 rfl rfl)
theorem dX4_sharpest_37 : decode cX4_sharpest 37 = .ok (.invokevirtual 227, 3) := dk_182 0 227 (dk_at dksX4_sharpest_1 15 rfl rfl)
theorem dX4_sharpest_40 : decode cX4_sharpest 40 = .ok (.istore_n 3, 1) := dk_62 (dk_at dksX4_sharpest_1 18 rfl rfl)
theorem dX4_sharpest_41 : decode cX4_sharpest 41 = .ok (.iload 5, 2) := dk_21 5 (dk_at dksX4_sharpest_1 19 rfl rfl)
theorem dX4_sharpest_43 : decode cX4_sharpest 43 = .ok (.iload_n 2, 1) := dk_28 (dk_at dksX4_sharpest_1 21 rfl rfl)
theorem dX4_sharpest_44 : decode cX4_sharpest 44 = .ok (.if_icmp .le 8, 3) := dk_164 0 8 (dk_at dksX4_sharpest_2 0 rfl rfl)
theorem dX4_sharpest_47 : decode cX4_sharpest 47 = .ok (.iload 4, 2) := dk_21 4 (dk_at dksX4_sharpest_2 3 rfl rfl)
theorem dX4_sharpest_49 : decode cX4_sharpest 49 = .ok (.goto 4, 3) := dk_167 0 4 (dk_at dksX4_sharpest_2 5 rfl rfl)
theorem dX4_sharpest_52 : decode cX4_sharpest 52 = .ok (.iload_n 1, 1) := dk_27 (dk_at dksX4_sharpest_2 8 rfl rfl)
theorem dX4_sharpest_53 : decode cX4_sharpest 53 = .ok (.istore_n 1, 1) := dk_60 (dk_at dksX4_sharpest_2 9 rfl rfl)
theorem dX4_sharpest_54 : decode cX4_sharpest 54 = .ok (.iload 5, 2) := dk_21 5 (dk_at dksX4_sharpest_2 10 rfl rfl)
theorem dX4_sharpest_56 : decode cX4_sharpest 56 = .ok (.iload_n 2, 1) := dk_28 (dk_at dksX4_sharpest_2 12 rfl rfl)
theorem dX4_sharpest_57 : decode cX4_sharpest 57 = .ok (.if_icmp .le 8, 3) := dk_164 0 8 (dk_at dksX4_sharpest_2 13 rfl rfl)
theorem dX4_sharpest_60 : decode cX4_sharpest 60 = .ok (.iload 5, 2) := dk_21 5 (dk_at dksX4_sharpest_2 16 rfl rfl)
theorem dX4_sharpest_62 : decode cX4_sharpest 62 = .ok (.goto 4, 3) := dk_167 0 4 (dk_at dksX4_sharpest_2 18 rfl rfl)
theorem dX4_sharpest_65 : decode cX4_sharpest 65 = .ok (.iload_n 2, 1) := dk_28 (dk_at dksX4_sharpest_2 21 rfl rfl)
theorem dX4_sharpest_66 : decode cX4_sharpest 66 = .ok (.istore_n 2, 1) := dk_61 (dk_at dksX4_sharpest_2 22 rfl rfl)
theorem dX4_sharpest_67 : decode cX4_sharpest 67 = .ok (.iinc 4 1, 3) := dk_132 4 1 (dk_at dksX4_sharpest_3 0 rfl rfl)
theorem dX4_sharpest_70 : decode cX4_sharpest 70 = .ok (.goto (-49), 3) := dk_167 255 207 (dk_at dksX4_sharpest_3 3 rfl rfl)
theorem dX4_sharpest_73 : decode cX4_sharpest 73 = .ok (.iload_n 1, 1) := dk_27 (dk_at dksX4_sharpest_3 6 rfl rfl)
theorem dX4_sharpest_74 : decode cX4_sharpest 74 = .ok (.ireturn, 1) := dk_172 (dk_at dksX4_sharpest_3 7 rfl rfl)
def dkwX4_ranked_6 : List UInt8 := [167, 255, 134, 2, 172]
abbrev dktX4_ranked_6 : List UInt8 := dkwX4_ranked_6 ++ []
def dkwX4_ranked_5 : List UInt8 := [167, 0, 4, 3, 96, 62, 132, 4, 1, 167, 255, 162, 29, 27, 160, 0, 5, 28, 172, 132, 2, 1]
abbrev dktX4_ranked_5 : List UInt8 := dkwX4_ranked_5 ++ dktX4_ranked_6
def dkwX4_ranked_4 : List UInt8 := [29, 21, 5, 21, 6, 161, 0, 16, 21, 5, 21, 6, 160, 0, 13, 21, 4, 28, 162, 0, 7, 4]
abbrev dktX4_ranked_4 : List UInt8 := dkwX4_ranked_4 ++ dktX4_ranked_5
def dkwX4_ranked_3 : List UInt8 := [180, 0, 53, 28, 46, 16, 254, 160, 0, 9, 17, 39, 15, 167, 0, 9, 42, 180, 0, 53, 28, 46, 54, 6]
abbrev dktX4_ranked_3 : List UInt8 := dkwX4_ranked_3 ++ dktX4_ranked_4
def dkwX4_ranked_2 : List UInt8 := [21, 4, 46, 16, 254, 160, 0, 9, 17, 39, 15, 167, 0, 10, 42, 180, 0, 53, 21, 4, 46, 54, 5, 42]
abbrev dktX4_ranked_2 : List UInt8 := dkwX4_ranked_2 ++ dktX4_ranked_3
def dkwX4_ranked_1 : List UInt8 := [162, 0, 118, 3, 62, 3, 54, 4, 21, 4, 42, 180, 0, 7, 4, 46, 162, 0, 89, 42, 180, 0, 53]
abbrev dktX4_ranked_1 : List UInt8 := dkwX4_ranked_1 ++ dktX4_ranked_2
def dkwX4_ranked_0 : List UInt8 := [42, 27, 182, 0, 237, 154, 0, 5, 2, 172, 42, 182, 1, 21, 3, 61, 28, 42, 180, 0, 7, 4, 46]
abbrev dktX4_ranked_0 : List UInt8 := dkwX4_ranked_0 ++ dktX4_ranked_1
theorem dksX4_ranked_0 : cX4_ranked.data.toList.drop 0 = dktX4_ranked_0 := by decide +kernel
theorem dksX4_ranked_1 : cX4_ranked.data.toList.drop 23 = dktX4_ranked_1 := dk_seg dksX4_ranked_0 23 rfl rfl
theorem dksX4_ranked_2 : cX4_ranked.data.toList.drop 46 = dktX4_ranked_2 := dk_seg dksX4_ranked_1 23 rfl rfl
theorem dksX4_ranked_3 : cX4_ranked.data.toList.drop 70 = dktX4_ranked_3 := dk_seg dksX4_ranked_2 24 rfl rfl
theorem dksX4_ranked_4 : cX4_ranked.data.toList.drop 94 = dktX4_ranked_4 := dk_seg dksX4_ranked_3 24 rfl rfl
theorem dksX4_ranked_5 : cX4_ranked.data.toList.drop 116 = dktX4_ranked_5 := dk_seg dksX4_ranked_4 22 rfl rfl
theorem dksX4_ranked_6 : cX4_ranked.data.toList.drop 138 = dktX4_ranked_6 := dk_seg dksX4_ranked_5 22 rfl rfl
theorem dX4_ranked_0 : decode cX4_ranked 0 = .ok (.aload_n 0, 1) := dk_42 (dk_at dksX4_ranked_0 0 rfl rfl)
theorem dX4_ranked_1 : decode cX4_ranked 1 = .ok (.iload_n 1, 1) := dk_27 (dk_at dksX4_ranked_0 1 rfl rfl)
theorem dX4_ranked_2 : decode cX4_ranked 2 = .ok (.invokevirtual 237, 3) := dk_182 0 237 (dk_at dksX4_ranked_0 2 rfl rfl)
theorem dX4_ranked_5 : decode cX4_ranked 5 = .ok (.ifCond .ne 5, 3) := dk_154 0 5 (dk_at dksX4_ranked_0 5 rfl rfl)
theorem dX4_ranked_8 : decode cX4_ranked 8 = .ok (.iconst (-1), 1) := dk_2 (dk_at dksX4_ranked_0 8 rfl rfl)
theorem dX4_ranked_9 : decode cX4_ranked 9 = .ok (.ireturn, 1) := dk_172 (dk_at dksX4_ranked_0 9 rfl rfl)
theorem dX4_ranked_10 : decode cX4_ranked 10 = .ok (.aload_n 0, 1) := dk_42 (dk_at dksX4_ranked_0 10 rfl rfl)
theorem dX4_ranked_11 : decode cX4_ranked 11 = .ok (.invokevirtual 277, 3) := dk_182 1 21 (dk_at dksX4_ranked_0 11 rfl rfl)
theorem dX4_ranked_14 : decode cX4_ranked 14 = .ok (.iconst 0, 1) := dk_3 (dk_at dksX4_ranked_0 14 rfl rfl)
theorem dX4_ranked_15 : decode cX4_ranked 15 = .ok (.istore_n 2, 1) := dk_61 (dk_at dksX4_ranked_0 15 rfl rfl)
theorem dX4_ranked_16 : decode cX4_ranked 16 = .ok (.iload_n 2, 1) := dk_28 (dk_at dksX4_ranked_0 16 rfl rfl)
theorem dX4_ranked_17 : decode cX4_ranked 17 = .ok (.aload_n 0, 1) := dk_42 (dk_at dksX4_ranked_0 17 rfl rfl)
theorem dX4_ranked_18 : decode cX4_ranked 18 = .ok (.getfield 7, 3) := dk_180 0 7 (dk_at dksX4_ranked_0 18 rfl rfl)
theorem dX4_ranked_21 : decode cX4_ranked 21 = .ok (.iconst 1, 1) := dk_4 (dk_at dksX4_ranked_0 21 rfl rfl)
theorem dX4_ranked_22 : decode cX4_ranked 22 = .ok (.iaload, 1) := dk_46 (dk_at dksX4_ranked_0 22 rfl rfl)
theorem dX4_ranked_23 : decode cX4_ranked 23 = .ok (.if_icmp .ge 118, 3) := dk_162 0 118 (dk_at dksX4_ranked_1 0 rfl rfl)
theorem dX4_ranked_26 : decode cX4_ranked 26 = .ok (.iconst 0, 1) := dk_3 (dk_at dksX4_ranked_1 3 rfl rfl)
theorem dX4_ranked_27 : decode cX4_ranked 27 = .ok (.istore_n 3, 1) := dk_62 (dk_at dksX4_ranked_1 4 rfl rfl)
theorem dX4_ranked_28 : decode cX4_ranked 28 = .ok (.iconst 0, 1) := dk_3 (dk_at dksX4_ranked_1 5 rfl rfl)
theorem dX4_ranked_29 : decode cX4_ranked 29 = .ok (.istore 4, 2) := dk_54 4 (dk_at dksX4_ranked_1 6 rfl rfl)
theorem dX4_ranked_31 : decode cX4_ranked 31 = .ok (.iload 4, 2) := dk_21 4 (dk_at dksX4_ranked_1 8 rfl rfl)
theorem dX4_ranked_33 : decode cX4_ranked 33 = .ok (.aload_n 0, 1) := dk_42 (dk_at dksX4_ranked_1 10 rfl rfl)
theorem dX4_ranked_34 : decode cX4_ranked 34 = .ok (.getfield 7, 3) := dk_180 0 7 (dk_at dksX4_ranked_1 11 rfl rfl)
theorem dX4_ranked_37 : decode cX4_ranked 37 = .ok (.iconst 1, 1) := dk_4 (dk_at dksX4_ranked_1 14 rfl rfl)
theorem dX4_ranked_38 : decode cX4_ranked 38 = .ok (.iaload, 1) := dk_46 (dk_at dksX4_ranked_1 15 rfl rfl)
theorem dX4_ranked_39 : decode cX4_ranked 39 = .ok (.if_icmp .ge 89, 3) := dk_162 0 89 (dk_at dksX4_ranked_1 16 rfl rfl)
theorem dX4_ranked_42 : decode cX4_ranked 42 = .ok (.aload_n 0, 1) := dk_42 (dk_at dksX4_ranked_1 19 rfl rfl)
theorem dX4_ranked_43 : decode cX4_ranked 43 = .ok (.getfield 53, 3) := dk_180 0 53 (dk_at dksX4_ranked_1 20 rfl rfl)
theorem dX4_ranked_46 : decode cX4_ranked 46 = .ok (.iload 4, 2) := dk_21 4 (dk_at dksX4_ranked_2 0 rfl rfl)
theorem dX4_ranked_48 : decode cX4_ranked 48 = .ok (.iaload, 1) := dk_46 (dk_at dksX4_ranked_2 2 rfl rfl)
theorem dX4_ranked_49 : decode cX4_ranked 49 = .ok (.bipush (-2), 2) := dk_16 254 (dk_at dksX4_ranked_2 3 rfl rfl)
theorem dX4_ranked_51 : decode cX4_ranked 51 = .ok (.if_icmp .ne 9, 3) := dk_160 0 9 (dk_at dksX4_ranked_2 5 rfl rfl)
theorem dX4_ranked_54 : decode cX4_ranked 54 = .ok (.sipush 9999, 3) := dk_17 39 15 (dk_at dksX4_ranked_2 8 rfl rfl)
theorem dX4_ranked_57 : decode cX4_ranked 57 = .ok (.goto 10, 3) := dk_167 0 10 (dk_at dksX4_ranked_2 11 rfl rfl)
theorem dX4_ranked_60 : decode cX4_ranked 60 = .ok (.aload_n 0, 1) := dk_42 (dk_at dksX4_ranked_2 14 rfl rfl)
theorem dX4_ranked_61 : decode cX4_ranked 61 = .ok (.getfield 53, 3) := dk_180 0 53 (dk_at dksX4_ranked_2 15 rfl rfl)
theorem dX4_ranked_64 : decode cX4_ranked 64 = .ok (.iload 4, 2) := dk_21 4 (dk_at dksX4_ranked_2 18 rfl rfl)
theorem dX4_ranked_66 : decode cX4_ranked 66 = .ok (.iaload, 1) := dk_46 (dk_at dksX4_ranked_2 20 rfl rfl)
theorem dX4_ranked_67 : decode cX4_ranked 67 = .ok (.istore 5, 2) := dk_54 5 (dk_at dksX4_ranked_2 21 rfl rfl)
theorem dX4_ranked_69 : decode cX4_ranked 69 = .ok (.aload_n 0, 1) := dk_42 (dk_at dksX4_ranked_2 23 rfl rfl)
theorem dX4_ranked_70 : decode cX4_ranked 70 = .ok (.getfield 53, 3) := dk_180 0 53 (dk_at dksX4_ranked_3 0 rfl rfl)
theorem dX4_ranked_73 : decode cX4_ranked 73 = .ok (.iload_n 2, 1) := dk_28 (dk_at dksX4_ranked_3 3 rfl rfl)
theorem dX4_ranked_74 : decode cX4_ranked 74 = .ok (.iaload, 1) := dk_46 (dk_at dksX4_ranked_3 4 rfl rfl)
theorem dX4_ranked_75 : decode cX4_ranked 75 = .ok (.bipush (-2), 2) := dk_16 254 (dk_at dksX4_ranked_3 5 rfl rfl)
theorem dX4_ranked_77 : decode cX4_ranked 77 = .ok (.if_icmp .ne 9, 3) := dk_160 0 9 (dk_at dksX4_ranked_3 7 rfl rfl)
theorem dX4_ranked_80 : decode cX4_ranked 80 = .ok (.sipush 9999, 3) := dk_17 39 15 (dk_at dksX4_ranked_3 10 rfl rfl)
theorem dX4_ranked_83 : decode cX4_ranked 83 = .ok (.goto 9, 3) := dk_167 0 9 (dk_at dksX4_ranked_3 13 rfl rfl)
theorem dX4_ranked_86 : decode cX4_ranked 86 = .ok (.aload_n 0, 1) := dk_42 (dk_at dksX4_ranked_3 16 rfl rfl)
theorem dX4_ranked_87 : decode cX4_ranked 87 = .ok (.getfield 53, 3) := dk_180 0 53 (dk_at dksX4_ranked_3 17 rfl rfl)
theorem dX4_ranked_90 : decode cX4_ranked 90 = .ok (.iload_n 2, 1) := dk_28 (dk_at dksX4_ranked_3 20 rfl rfl)
theorem dX4_ranked_91 : decode cX4_ranked 91 = .ok (.iaload, 1) := dk_46 (dk_at dksX4_ranked_3 21 rfl rfl)
theorem dX4_ranked_92 : decode cX4_ranked 92 = .ok (.istore 6, 2) := dk_54 6 (dk_at dksX4_ranked_3 22 rfl rfl)
theorem dX4_ranked_94 : decode cX4_ranked 94 = .ok (.iload_n 3, 1) := dk_29 (dk_at dksX4_ranked_4 0 rfl rfl)
theorem dX4_ranked_95 : decode cX4_ranked 95 = .ok (.iload 5, 2) := dk_21 5 (dk_at dksX4_ranked_4 1 rfl rfl)
theorem dX4_ranked_97 : decode cX4_ranked 97 = .ok (.iload 6, 2) := dk_21 6 (dk_at dksX4_ranked_4 3 rfl rfl)
theorem dX4_ranked_99 : decode cX4_ranked 99 = .ok (.if_icmp .lt 16, 3) := dk_161 0 16 (dk_at dksX4_ranked_4 5 rfl rfl)
theorem dX4_ranked_102 : decode cX4_ranked 102 = .ok (.iload 5, 2) := dk_21 5 (dk_at dksX4_ranked_4 8 rfl rfl)
theorem dX4_ranked_104 : decode cX4_ranked 104 = .ok (.iload 6, 2) := dk_21 6 (dk_at dksX4_ranked_4 10 rfl rfl)
theorem dX4_ranked_106 : decode cX4_ranked 106 = .ok (.if_icmp .ne 13, 3) := dk_160 0 13 (dk_at dksX4_ranked_4 12 rfl rfl)
theorem dX4_ranked_109 : decode cX4_ranked 109 = .ok (.iload 4, 2) := dk_21 4 (dk_at dksX4_ranked_4 15 rfl rfl)
theorem dX4_ranked_111 : decode cX4_ranked 111 = .ok (.iload_n 2, 1) := dk_28 (dk_at dksX4_ranked_4 17 rfl rfl)
theorem dX4_ranked_112 : decode cX4_ranked 112 = .ok (.if_icmp .ge 7, 3) := dk_162 0 7 (dk_at dksX4_ranked_4 18 rfl rfl)
theorem dX4_ranked_115 : decode cX4_ranked 115 = .ok (.iconst 1, 1) := dk_4 (dk_at dksX4_ranked_4 21 rfl rfl)
theorem dX4_ranked_116 : decode cX4_ranked 116 = .ok (.goto 4, 3) := dk_167 0 4 (dk_at dksX4_ranked_5 0 rfl rfl)
theorem dX4_ranked_119 : decode cX4_ranked 119 = .ok (.iconst 0, 1) := dk_3 (dk_at dksX4_ranked_5 3 rfl rfl)
theorem dX4_ranked_120 : decode cX4_ranked 120 = .ok (.iadd, 1) := dk_96 (dk_at dksX4_ranked_5 4 rfl rfl)
theorem dX4_ranked_121 : decode cX4_ranked 121 = .ok (.istore_n 3, 1) := dk_62 (dk_at dksX4_ranked_5 5 rfl rfl)
theorem dX4_ranked_122 : decode cX4_ranked 122 = .ok (.iinc 4 1, 3) := dk_132 4 1 (dk_at dksX4_ranked_5 6 rfl rfl)
theorem dX4_ranked_125 : decode cX4_ranked 125 = .ok (.goto (-94), 3) := dk_167 255 162 (dk_at dksX4_ranked_5 9 rfl rfl)
theorem dX4_ranked_128 : decode cX4_ranked 128 = .ok (.iload_n 3, 1) := dk_29 (dk_at dksX4_ranked_5 12 rfl rfl)
theorem dX4_ranked_129 : decode cX4_ranked 129 = .ok (.iload_n 1, 1) := dk_27 (dk_at dksX4_ranked_5 13 rfl rfl)
theorem dX4_ranked_130 : decode cX4_ranked 130 = .ok (.if_icmp .ne 5, 3) := dk_160 0 5 (dk_at dksX4_ranked_5 14 rfl rfl)
theorem dX4_ranked_133 : decode cX4_ranked 133 = .ok (.iload_n 2, 1) := dk_28 (dk_at dksX4_ranked_5 17 rfl rfl)
theorem dX4_ranked_134 : decode cX4_ranked 134 = .ok (.ireturn, 1) := dk_172 (dk_at dksX4_ranked_5 18 rfl rfl)
theorem dX4_ranked_135 : decode cX4_ranked 135 = .ok (.iinc 2 1, 3) := dk_132 2 1 (dk_at dksX4_ranked_5 19 rfl rfl)
theorem dX4_ranked_138 : decode cX4_ranked 138 = .ok (.goto (-122), 3) := dk_167 255 134 (dk_at dksX4_ranked_6 0 rfl rfl)
theorem dX4_ranked_141 : decode cX4_ranked 141 = .ok (.iconst (-1), 1) := dk_2 (dk_at dksX4_ranked_6 3 rfl rfl)
theorem dX4_ranked_142 : decode cX4_ranked 142 = .ok (.ireturn, 1) := dk_172 (dk_at dksX4_ranked_6 4 rfl rfl)
def dkwX4_layFell_4 : List UInt8 := [132, 1, 1, 167, 255, 189, 177]
abbrev dktX4_layFell_4 : List UInt8 := dkwX4_layFell_4 ++ []
def dkwX4_layFell_3 : List UInt8 := [122, 4, 126, 4, 160, 0, 7, 27, 167, 0, 9, 42, 180, 0, 53, 28, 46, 79, 132, 2, 1, 167, 255, 204]
abbrev dktX4_layFell_3 : List UInt8 := dkwX4_layFell_3 ++ dktX4_layFell_4
def dkwX4_layFell_2 : List UInt8 := [162, 0, 48, 42, 180, 0, 53, 28, 42, 180, 0, 53, 28, 46, 16, 254, 160, 0, 19, 42, 180, 0, 184, 28]
abbrev dktX4_layFell_2 : List UInt8 := dkwX4_layFell_2 ++ dktX4_layFell_3
def dkwX4_layFell_1 : List UInt8 := [132, 1, 1, 167, 255, 239, 4, 60, 42, 182, 0, 211, 153, 0, 66, 3, 61, 28, 42, 180, 0, 7, 4, 46]
abbrev dktX4_layFell_1 : List UInt8 := dkwX4_layFell_1 ++ dktX4_layFell_2
def dkwX4_layFell_0 : List UInt8 := [42, 182, 0, 252, 42, 182, 0, 215, 3, 60, 27, 16, 6, 162, 0, 17, 42, 180, 0, 53, 27, 16, 254, 79]
abbrev dktX4_layFell_0 : List UInt8 := dkwX4_layFell_0 ++ dktX4_layFell_1
theorem dksX4_layFell_0 : cX4_layFell.data.toList.drop 0 = dktX4_layFell_0 := by decide +kernel
theorem dksX4_layFell_1 : cX4_layFell.data.toList.drop 24 = dktX4_layFell_1 := dk_seg dksX4_layFell_0 24 rfl rfl
theorem dksX4_layFell_2 : cX4_layFell.data.toList.drop 48 = dktX4_layFell_2 := dk_seg dksX4_layFell_1 24 rfl rfl
theorem dksX4_layFell_3 : cX4_layFell.data.toList.drop 72 = dktX4_layFell_3 := dk_seg dksX4_layFell_2 24 rfl rfl
theorem dksX4_layFell_4 : cX4_layFell.data.toList.drop 96 = dktX4_layFell_4 := dk_seg dksX4_layFell_3 24 rfl rfl
theorem dX4_layFell_0 : decode cX4_layFell 0 = .ok (.aload_n 0, 1) := dk_42 (dk_at dksX4_layFell_0 0 rfl rfl)
theorem dX4_layFell_1 : decode cX4_layFell 1 = .ok (.invokevirtual 252, 3) := dk_182 0 252 (dk_at dksX4_layFell_0 1 rfl rfl)
theorem dX4_layFell_4 : decode cX4_layFell 4 = .ok (.aload_n 0, 1) := dk_42 (dk_at dksX4_layFell_0 4 rfl rfl)
theorem dX4_layFell_5 : decode cX4_layFell 5 = .ok (.invokevirtual 215, 3) := dk_182 0 215 (dk_at dksX4_layFell_0 5 rfl rfl)
theorem dX4_layFell_8 : decode cX4_layFell 8 = .ok (.iconst 0, 1) := dk_3 (dk_at dksX4_layFell_0 8 rfl rfl)
theorem dX4_layFell_9 : decode cX4_layFell 9 = .ok (.istore_n 1, 1) := dk_60 (dk_at dksX4_layFell_0 9 rfl rfl)
theorem dX4_layFell_10 : decode cX4_layFell 10 = .ok (.iload_n 1, 1) := dk_27 (dk_at dksX4_layFell_0 10 rfl rfl)
theorem dX4_layFell_11 : decode cX4_layFell 11 = .ok (.bipush 6, 2) := dk_16 6 (dk_at dksX4_layFell_0 11 rfl rfl)
theorem dX4_layFell_13 : decode cX4_layFell 13 = .ok (.if_icmp .ge 17, 3) := dk_162 0 17 (dk_at dksX4_layFell_0 13 rfl rfl)
theorem dX4_layFell_16 : decode cX4_layFell 16 = .ok (.aload_n 0, 1) := dk_42 (dk_at dksX4_layFell_0 16 rfl rfl)
theorem dX4_layFell_17 : decode cX4_layFell 17 = .ok (.getfield 53, 3) := dk_180 0 53 (dk_at dksX4_layFell_0 17 rfl rfl)
theorem dX4_layFell_20 : decode cX4_layFell 20 = .ok (.iload_n 1, 1) := dk_27 (dk_at dksX4_layFell_0 20 rfl rfl)
theorem dX4_layFell_21 : decode cX4_layFell 21 = .ok (.bipush (-2), 2) := dk_16 254 (dk_at dksX4_layFell_0 21 rfl rfl)
theorem dX4_layFell_23 : decode cX4_layFell 23 = .ok (.iastore, 1) := dk_79 (dk_at dksX4_layFell_0 23 rfl rfl)
theorem dX4_layFell_24 : decode cX4_layFell 24 = .ok (.iinc 1 1, 3) := dk_132 1 1 (dk_at dksX4_layFell_1 0 rfl rfl)
theorem dX4_layFell_27 : decode cX4_layFell 27 = .ok (.goto (-17), 3) := dk_167 255 239 (dk_at dksX4_layFell_1 3 rfl rfl)
theorem dX4_layFell_30 : decode cX4_layFell 30 = .ok (.iconst 1, 1) := dk_4 (dk_at dksX4_layFell_1 6 rfl rfl)
theorem dX4_layFell_31 : decode cX4_layFell 31 = .ok (.istore_n 1, 1) := dk_60 (dk_at dksX4_layFell_1 7 rfl rfl)
theorem dX4_layFell_32 : decode cX4_layFell 32 = .ok (.aload_n 0, 1) := dk_42 (dk_at dksX4_layFell_1 8 rfl rfl)
theorem dX4_layFell_33 : decode cX4_layFell 33 = .ok (.invokevirtual 211, 3) := dk_182 0 211 (dk_at dksX4_layFell_1 9 rfl rfl)
theorem dX4_layFell_36 : decode cX4_layFell 36 = .ok (.ifCond .eq 66, 3) := dk_153 0 66 (dk_at dksX4_layFell_1 12 rfl rfl)
theorem dX4_layFell_39 : decode cX4_layFell 39 = .ok (.iconst 0, 1) := dk_3 (dk_at dksX4_layFell_1 15 rfl rfl)
theorem dX4_layFell_40 : decode cX4_layFell 40 = .ok (.istore_n 2, 1) := dk_61 (dk_at dksX4_layFell_1 16 rfl rfl)
theorem dX4_layFell_41 : decode cX4_layFell 41 = .ok (.iload_n 2, 1) := dk_28 (dk_at dksX4_layFell_1 17 rfl rfl)
theorem dX4_layFell_42 : decode cX4_layFell 42 = .ok (.aload_n 0, 1) := dk_42 (dk_at dksX4_layFell_1 18 rfl rfl)
theorem dX4_layFell_43 : decode cX4_layFell 43 = .ok (.getfield 7, 3) := dk_180 0 7 (dk_at dksX4_layFell_1 19 rfl rfl)
theorem dX4_layFell_46 : decode cX4_layFell 46 = .ok (.iconst 1, 1) := dk_4 (dk_at dksX4_layFell_1 22 rfl rfl)
theorem dX4_layFell_47 : decode cX4_layFell 47 = .ok (.iaload, 1) := dk_46 (dk_at dksX4_layFell_1 23 rfl rfl)
theorem dX4_layFell_48 : decode cX4_layFell 48 = .ok (.if_icmp .ge 48, 3) := dk_162 0 48 (dk_at dksX4_layFell_2 0 rfl rfl)
theorem dX4_layFell_51 : decode cX4_layFell 51 = .ok (.aload_n 0, 1) := dk_42 (dk_at dksX4_layFell_2 3 rfl rfl)
theorem dX4_layFell_52 : decode cX4_layFell 52 = .ok (.getfield 53, 3) := dk_180 0 53 (dk_at dksX4_layFell_2 4 rfl rfl)
theorem dX4_layFell_55 : decode cX4_layFell 55 = .ok (.iload_n 2, 1) := dk_28 (dk_at dksX4_layFell_2 7 rfl rfl)
theorem dX4_layFell_56 : decode cX4_layFell 56 = .ok (.aload_n 0, 1) := dk_42 (dk_at dksX4_layFell_2 8 rfl rfl)
theorem dX4_layFell_57 : decode cX4_layFell 57 = .ok (.getfield 53, 3) := dk_180 0 53 (dk_at dksX4_layFell_2 9 rfl rfl)
theorem dX4_layFell_60 : decode cX4_layFell 60 = .ok (.iload_n 2, 1) := dk_28 (dk_at dksX4_layFell_2 12 rfl rfl)
theorem dX4_layFell_61 : decode cX4_layFell 61 = .ok (.iaload, 1) := dk_46 (dk_at dksX4_layFell_2 13 rfl rfl)
theorem dX4_layFell_62 : decode cX4_layFell 62 = .ok (.bipush (-2), 2) := dk_16 254 (dk_at dksX4_layFell_2 14 rfl rfl)
theorem dX4_layFell_64 : decode cX4_layFell 64 = .ok (.if_icmp .ne 19, 3) := dk_160 0 19 (dk_at dksX4_layFell_2 16 rfl rfl)
theorem dX4_layFell_67 : decode cX4_layFell 67 = .ok (.aload_n 0, 1) := dk_42 (dk_at dksX4_layFell_2 19 rfl rfl)
theorem dX4_layFell_68 : decode cX4_layFell 68 = .ok (.getfield 184, 3) := dk_180 0 184 (dk_at dksX4_layFell_2 20 rfl rfl)
theorem dX4_layFell_71 : decode cX4_layFell 71 = .ok (.iload_n 2, 1) := dk_28 (dk_at dksX4_layFell_2 23 rfl rfl)
theorem dX4_layFell_72 : decode cX4_layFell 72 = .ok (.ishr, 1) := dk_122 (dk_at dksX4_layFell_3 0 rfl rfl)
theorem dX4_layFell_73 : decode cX4_layFell 73 = .ok (.iconst 1, 1) := dk_4 (dk_at dksX4_layFell_3 1 rfl rfl)
theorem dX4_layFell_74 : decode cX4_layFell 74 = .ok (.iand, 1) := dk_126 (dk_at dksX4_layFell_3 2 rfl rfl)
theorem dX4_layFell_75 : decode cX4_layFell 75 = .ok (.iconst 1, 1) := dk_4 (dk_at dksX4_layFell_3 3 rfl rfl)
theorem dX4_layFell_76 : decode cX4_layFell 76 = .ok (.if_icmp .ne 7, 3) := dk_160 0 7 (dk_at dksX4_layFell_3 4 rfl rfl)
theorem dX4_layFell_79 : decode cX4_layFell 79 = .ok (.iload_n 1, 1) := dk_27 (dk_at dksX4_layFell_3 7 rfl rfl)
theorem dX4_layFell_80 : decode cX4_layFell 80 = .ok (.goto 9, 3) := dk_167 0 9 (dk_at dksX4_layFell_3 8 rfl rfl)
theorem dX4_layFell_83 : decode cX4_layFell 83 = .ok (.aload_n 0, 1) := dk_42 (dk_at dksX4_layFell_3 11 rfl rfl)
theorem dX4_layFell_84 : decode cX4_layFell 84 = .ok (.getfield 53, 3) := dk_180 0 53 (dk_at dksX4_layFell_3 12 rfl rfl)
theorem dX4_layFell_87 : decode cX4_layFell 87 = .ok (.iload_n 2, 1) := dk_28 (dk_at dksX4_layFell_3 15 rfl rfl)
theorem dX4_layFell_88 : decode cX4_layFell 88 = .ok (.iaload, 1) := dk_46 (dk_at dksX4_layFell_3 16 rfl rfl)
theorem dX4_layFell_89 : decode cX4_layFell 89 = .ok (.iastore, 1) := dk_79 (dk_at dksX4_layFell_3 17 rfl rfl)
theorem dX4_layFell_90 : decode cX4_layFell 90 = .ok (.iinc 2 1, 3) := dk_132 2 1 (dk_at dksX4_layFell_3 18 rfl rfl)
theorem dX4_layFell_93 : decode cX4_layFell 93 = .ok (.goto (-52), 3) := dk_167 255 204 (dk_at dksX4_layFell_3 21 rfl rfl)
theorem dX4_layFell_96 : decode cX4_layFell 96 = .ok (.iinc 1 1, 3) := dk_132 1 1 (dk_at dksX4_layFell_4 0 rfl rfl)
theorem dX4_layFell_99 : decode cX4_layFell 99 = .ok (.goto (-67), 3) := dk_167 255 189 (dk_at dksX4_layFell_4 3 rfl rfl)
theorem dX4_layFell_102 : decode cX4_layFell 102 = .ok (.return_, 1) := dk_177 (dk_at dksX4_layFell_4 6 rfl rfl)
def dkwX4_fellIn_0 : List UInt8 := [42, 27, 182, 0, 237, 154, 0, 5, 2, 172, 42, 182, 1, 21, 42, 180, 0, 53, 27, 46, 172]
abbrev dktX4_fellIn_0 : List UInt8 := dkwX4_fellIn_0 ++ []
theorem dksX4_fellIn_0 : cX4_fellIn.data.toList.drop 0 = dktX4_fellIn_0 := by decide +kernel
theorem dX4_fellIn_0 : decode cX4_fellIn 0 = .ok (.aload_n 0, 1) := dk_42 (dk_at dksX4_fellIn_0 0 rfl rfl)
theorem dX4_fellIn_1 : decode cX4_fellIn 1 = .ok (.iload_n 1, 1) := dk_27 (dk_at dksX4_fellIn_0 1 rfl rfl)
theorem dX4_fellIn_2 : decode cX4_fellIn 2 = .ok (.invokevirtual 237, 3) := dk_182 0 237 (dk_at dksX4_fellIn_0 2 rfl rfl)
theorem dX4_fellIn_5 : decode cX4_fellIn 5 = .ok (.ifCond .ne 5, 3) := dk_154 0 5 (dk_at dksX4_fellIn_0 5 rfl rfl)
theorem dX4_fellIn_8 : decode cX4_fellIn 8 = .ok (.iconst (-1), 1) := dk_2 (dk_at dksX4_fellIn_0 8 rfl rfl)
theorem dX4_fellIn_9 : decode cX4_fellIn 9 = .ok (.ireturn, 1) := dk_172 (dk_at dksX4_fellIn_0 9 rfl rfl)
theorem dX4_fellIn_10 : decode cX4_fellIn 10 = .ok (.aload_n 0, 1) := dk_42 (dk_at dksX4_fellIn_0 10 rfl rfl)
theorem dX4_fellIn_11 : decode cX4_fellIn 11 = .ok (.invokevirtual 277, 3) := dk_182 1 21 (dk_at dksX4_fellIn_0 11 rfl rfl)
theorem dX4_fellIn_14 : decode cX4_fellIn 14 = .ok (.aload_n 0, 1) := dk_42 (dk_at dksX4_fellIn_0 14 rfl rfl)
theorem dX4_fellIn_15 : decode cX4_fellIn 15 = .ok (.getfield 53, 3) := dk_180 0 53 (dk_at dksX4_fellIn_0 15 rfl rfl)
theorem dX4_fellIn_18 : decode cX4_fellIn 18 = .ok (.iload_n 1, 1) := dk_27 (dk_at dksX4_fellIn_0 18 rfl rfl)
theorem dX4_fellIn_19 : decode cX4_fellIn 19 = .ok (.iaload, 1) := dk_46 (dk_at dksX4_fellIn_0 19 rfl rfl)
theorem dX4_fellIn_20 : decode cX4_fellIn 20 = .ok (.ireturn, 1) := dk_172 (dk_at dksX4_fellIn_0 20 rfl rfl)
def dkwX4_next_1 : List UInt8 := [42, 182, 0, 211, 54, 5, 42, 21, 4, 182, 1, 2, 172]
abbrev dktX4_next_1 : List UInt8 := dkwX4_next_1 ++ []
def dkwX4_next_0 : List UInt8 := [42, 21, 4, 182, 1, 11, 154, 0, 5, 2, 172, 42, 27, 28, 29, 182, 1, 24, 154, 0, 6, 16, 254, 172]
abbrev dktX4_next_0 : List UInt8 := dkwX4_next_0 ++ dktX4_next_1
theorem dksX4_next_0 : cX4_next.data.toList.drop 0 = dktX4_next_0 := by decide +kernel
theorem dksX4_next_1 : cX4_next.data.toList.drop 24 = dktX4_next_1 := dk_seg dksX4_next_0 24 rfl rfl
theorem dX4_next_0 : decode cX4_next 0 = .ok (.aload_n 0, 1) := dk_42 (dk_at dksX4_next_0 0 rfl rfl)
theorem dX4_next_1 : decode cX4_next 1 = .ok (.iload 4, 2) := dk_21 4 (dk_at dksX4_next_0 1 rfl rfl)
theorem dX4_next_3 : decode cX4_next 3 = .ok (.invokevirtual 267, 3) := dk_182 1 11 (dk_at dksX4_next_0 3 rfl rfl)
theorem dX4_next_6 : decode cX4_next 6 = .ok (.ifCond .ne 5, 3) := dk_154 0 5 (dk_at dksX4_next_0 6 rfl rfl)
theorem dX4_next_9 : decode cX4_next 9 = .ok (.iconst (-1), 1) := dk_2 (dk_at dksX4_next_0 9 rfl rfl)
theorem dX4_next_10 : decode cX4_next 10 = .ok (.ireturn, 1) := dk_172 (dk_at dksX4_next_0 10 rfl rfl)
theorem dX4_next_11 : decode cX4_next 11 = .ok (.aload_n 0, 1) := dk_42 (dk_at dksX4_next_0 11 rfl rfl)
theorem dX4_next_12 : decode cX4_next 12 = .ok (.iload_n 1, 1) := dk_27 (dk_at dksX4_next_0 12 rfl rfl)
theorem dX4_next_13 : decode cX4_next 13 = .ok (.iload_n 2, 1) := dk_28 (dk_at dksX4_next_0 13 rfl rfl)
theorem dX4_next_14 : decode cX4_next 14 = .ok (.iload_n 3, 1) := dk_29 (dk_at dksX4_next_0 14 rfl rfl)
theorem dX4_next_15 : decode cX4_next 15 = .ok (.invokevirtual 280, 3) := dk_182 1 24 (dk_at dksX4_next_0 15 rfl rfl)
theorem dX4_next_18 : decode cX4_next 18 = .ok (.ifCond .ne 6, 3) := dk_154 0 6 (dk_at dksX4_next_0 18 rfl rfl)
theorem dX4_next_21 : decode cX4_next 21 = .ok (.bipush (-2), 2) := dk_16 254 (dk_at dksX4_next_0 21 rfl rfl)
theorem dX4_next_23 : decode cX4_next 23 = .ok (.ireturn, 1) := dk_172 (dk_at dksX4_next_0 23 rfl rfl)
theorem dX4_next_24 : decode cX4_next 24 = .ok (.aload_n 0, 1) := dk_42 (dk_at dksX4_next_1 0 rfl rfl)
theorem dX4_next_25 : decode cX4_next 25 = .ok (.invokevirtual 211, 3) := dk_182 0 211 (dk_at dksX4_next_1 1 rfl rfl)
theorem dX4_next_28 : decode cX4_next 28 = .ok (.istore 5, 2) := dk_54 5 (dk_at dksX4_next_1 4 rfl rfl)
theorem dX4_next_30 : decode cX4_next 30 = .ok (.aload_n 0, 1) := dk_42 (dk_at dksX4_next_1 6 rfl rfl)
theorem dX4_next_31 : decode cX4_next 31 = .ok (.iload 4, 2) := dk_21 4 (dk_at dksX4_next_1 7 rfl rfl)
theorem dX4_next_33 : decode cX4_next 33 = .ok (.invokevirtual 258, 3) := dk_182 1 2 (dk_at dksX4_next_1 9 rfl rfl)
theorem dX4_next_36 : decode cX4_next 36 = .ok (.ireturn, 1) := dk_172 (dk_at dksX4_next_1 12 rfl rfl)
def dkwX4_isLaid_6 : List UInt8 := [21, 4, 172]
abbrev dktX4_isLaid_6 : List UInt8 := dkwX4_isLaid_6 ++ []
def dkwX4_isLaid_5 : List UInt8 := [182, 0, 205, 167, 0, 4, 3, 163, 0, 7, 4, 167, 0, 4, 3, 54, 4, 132, 5, 1, 167, 255, 204]
abbrev dktX4_isLaid_5 : List UInt8 := dkwX4_isLaid_5 ++ dktX4_isLaid_6
def dkwX4_isLaid_4 : List UInt8 := [153, 0, 38, 42, 180, 0, 22, 21, 5, 46, 21, 5, 42, 180, 0, 7, 3, 46, 162, 0, 12, 42, 21, 5]
abbrev dktX4_isLaid_4 : List UInt8 := dkwX4_isLaid_4 ++ dktX4_isLaid_5
def dkwX4_isLaid_3 : List UInt8 := [17, 3, 232, 112, 79, 42, 29, 181, 0, 184, 4, 54, 4, 3, 54, 5, 21, 5, 7, 162, 0, 52, 21, 4]
abbrev dktX4_isLaid_3 : List UInt8 := dkwX4_isLaid_3 ++ dktX4_isLaid_4
def dkwX4_isLaid_2 : List UInt8 := [27, 17, 3, 232, 112, 79, 42, 180, 0, 22, 5, 28, 17, 3, 232, 108, 79, 42, 180, 0, 22, 6, 28]
abbrev dktX4_isLaid_2 : List UInt8 := dkwX4_isLaid_2 ++ dktX4_isLaid_3
def dkwX4_isLaid_1 : List UInt8 := [184, 0, 68, 154, 0, 5, 3, 172, 42, 180, 0, 22, 3, 27, 17, 3, 232, 108, 79, 42, 180, 0, 22, 4]
abbrev dktX4_isLaid_1 : List UInt8 := dkwX4_isLaid_1 ++ dktX4_isLaid_2
def dkwX4_isLaid_0 : List UInt8 := [42, 182, 0, 252, 27, 155, 0, 25, 28, 155, 0, 21, 29, 3, 4, 42, 180, 0, 7, 4, 46, 120, 4, 100]
abbrev dktX4_isLaid_0 : List UInt8 := dkwX4_isLaid_0 ++ dktX4_isLaid_1
theorem dksX4_isLaid_0 : cX4_isLaid.data.toList.drop 0 = dktX4_isLaid_0 := by decide +kernel
theorem dksX4_isLaid_1 : cX4_isLaid.data.toList.drop 24 = dktX4_isLaid_1 := dk_seg dksX4_isLaid_0 24 rfl rfl
theorem dksX4_isLaid_2 : cX4_isLaid.data.toList.drop 48 = dktX4_isLaid_2 := dk_seg dksX4_isLaid_1 24 rfl rfl
theorem dksX4_isLaid_3 : cX4_isLaid.data.toList.drop 71 = dktX4_isLaid_3 := dk_seg dksX4_isLaid_2 23 rfl rfl
theorem dksX4_isLaid_4 : cX4_isLaid.data.toList.drop 95 = dktX4_isLaid_4 := dk_seg dksX4_isLaid_3 24 rfl rfl
theorem dksX4_isLaid_5 : cX4_isLaid.data.toList.drop 119 = dktX4_isLaid_5 := dk_seg dksX4_isLaid_4 24 rfl rfl
theorem dksX4_isLaid_6 : cX4_isLaid.data.toList.drop 142 = dktX4_isLaid_6 := dk_seg dksX4_isLaid_5 23 rfl rfl
theorem dX4_isLaid_0 : decode cX4_isLaid 0 = .ok (.aload_n 0, 1) := dk_42 (dk_at dksX4_isLaid_0 0 rfl rfl)
theorem dX4_isLaid_1 : decode cX4_isLaid 1 = .ok (.invokevirtual 252, 3) := dk_182 0 252 (dk_at dksX4_isLaid_0 1 rfl rfl)
theorem dX4_isLaid_4 : decode cX4_isLaid 4 = .ok (.iload_n 1, 1) := dk_27 (dk_at dksX4_isLaid_0 4 rfl rfl)
theorem dX4_isLaid_5 : decode cX4_isLaid 5 = .ok (.ifCond .lt 25, 3) := dk_155 0 25 (dk_at dksX4_isLaid_0 5 rfl rfl)
theorem dX4_isLaid_8 : decode cX4_isLaid 8 = .ok (.iload_n 2, 1) := dk_28 (dk_at dksX4_isLaid_0 8 rfl rfl)
theorem dX4_isLaid_9 : decode cX4_isLaid 9 = .ok (.ifCond .lt 21, 3) := dk_155 0 21 (dk_at dksX4_isLaid_0 9 rfl rfl)
theorem dX4_isLaid_12 : decode cX4_isLaid 12 = .ok (.iload_n 3, 1) := dk_29 (dk_at dksX4_isLaid_0 12 rfl rfl)
theorem dX4_isLaid_13 : decode cX4_isLaid 13 = .ok (.iconst 0, 1) := dk_3 (dk_at dksX4_isLaid_0 13 rfl rfl)
theorem dX4_isLaid_14 : decode cX4_isLaid 14 = .ok (.iconst 1, 1) := dk_4 (dk_at dksX4_isLaid_0 14 rfl rfl)
theorem dX4_isLaid_15 : decode cX4_isLaid 15 = .ok (.aload_n 0, 1) := dk_42 (dk_at dksX4_isLaid_0 15 rfl rfl)
theorem dX4_isLaid_16 : decode cX4_isLaid 16 = .ok (.getfield 7, 3) := dk_180 0 7 (dk_at dksX4_isLaid_0 16 rfl rfl)
theorem dX4_isLaid_19 : decode cX4_isLaid 19 = .ok (.iconst 1, 1) := dk_4 (dk_at dksX4_isLaid_0 19 rfl rfl)
theorem dX4_isLaid_20 : decode cX4_isLaid 20 = .ok (.iaload, 1) := dk_46 (dk_at dksX4_isLaid_0 20 rfl rfl)
theorem dX4_isLaid_21 : decode cX4_isLaid 21 = .ok (.ishl, 1) := dk_120 (dk_at dksX4_isLaid_0 21 rfl rfl)
theorem dX4_isLaid_22 : decode cX4_isLaid 22 = .ok (.iconst 1, 1) := dk_4 (dk_at dksX4_isLaid_0 22 rfl rfl)
theorem dX4_isLaid_23 : decode cX4_isLaid 23 = .ok (.isub, 1) := dk_100 (dk_at dksX4_isLaid_0 23 rfl rfl)
theorem dX4_isLaid_24 : decode cX4_isLaid 24 = .ok (.invokestatic 68, 3) := dk_184 0 68 (dk_at dksX4_isLaid_1 0 rfl rfl)
theorem dX4_isLaid_27 : decode cX4_isLaid 27 = .ok (.ifCond .ne 5, 3) := dk_154 0 5 (dk_at dksX4_isLaid_1 3 rfl rfl)
theorem dX4_isLaid_30 : decode cX4_isLaid 30 = .ok (.iconst 0, 1) := dk_3 (dk_at dksX4_isLaid_1 6 rfl rfl)
theorem dX4_isLaid_31 : decode cX4_isLaid 31 = .ok (.ireturn, 1) := dk_172 (dk_at dksX4_isLaid_1 7 rfl rfl)
theorem dX4_isLaid_32 : decode cX4_isLaid 32 = .ok (.aload_n 0, 1) := dk_42 (dk_at dksX4_isLaid_1 8 rfl rfl)
theorem dX4_isLaid_33 : decode cX4_isLaid 33 = .ok (.getfield 22, 3) := dk_180 0 22 (dk_at dksX4_isLaid_1 9 rfl rfl)
theorem dX4_isLaid_36 : decode cX4_isLaid 36 = .ok (.iconst 0, 1) := dk_3 (dk_at dksX4_isLaid_1 12 rfl rfl)
theorem dX4_isLaid_37 : decode cX4_isLaid 37 = .ok (.iload_n 1, 1) := dk_27 (dk_at dksX4_isLaid_1 13 rfl rfl)
theorem dX4_isLaid_38 : decode cX4_isLaid 38 = .ok (.sipush 1000, 3) := dk_17 3 232 (dk_at dksX4_isLaid_1 14 rfl rfl)
theorem dX4_isLaid_41 : decode cX4_isLaid 41 = .ok (.idiv, 1) := dk_108 (dk_at dksX4_isLaid_1 17 rfl rfl)
theorem dX4_isLaid_42 : decode cX4_isLaid 42 = .ok (.iastore, 1) := dk_79 (dk_at dksX4_isLaid_1 18 rfl rfl)
theorem dX4_isLaid_43 : decode cX4_isLaid 43 = .ok (.aload_n 0, 1) := dk_42 (dk_at dksX4_isLaid_1 19 rfl rfl)
theorem dX4_isLaid_44 : decode cX4_isLaid 44 = .ok (.getfield 22, 3) := dk_180 0 22 (dk_at dksX4_isLaid_1 20 rfl rfl)
theorem dX4_isLaid_47 : decode cX4_isLaid 47 = .ok (.iconst 1, 1) := dk_4 (dk_at dksX4_isLaid_1 23 rfl rfl)
theorem dX4_isLaid_48 : decode cX4_isLaid 48 = .ok (.iload_n 1, 1) := dk_27 (dk_at dksX4_isLaid_2 0 rfl rfl)
theorem dX4_isLaid_49 : decode cX4_isLaid 49 = .ok (.sipush 1000, 3) := dk_17 3 232 (dk_at dksX4_isLaid_2 1 rfl rfl)
theorem dX4_isLaid_52 : decode cX4_isLaid 52 = .ok (.irem, 1) := dk_112 (dk_at dksX4_isLaid_2 4 rfl rfl)
theorem dX4_isLaid_53 : decode cX4_isLaid 53 = .ok (.iastore, 1) := dk_79 (dk_at dksX4_isLaid_2 5 rfl rfl)
theorem dX4_isLaid_54 : decode cX4_isLaid 54 = .ok (.aload_n 0, 1) := dk_42 (dk_at dksX4_isLaid_2 6 rfl rfl)
theorem dX4_isLaid_55 : decode cX4_isLaid 55 = .ok (.getfield 22, 3) := dk_180 0 22 (dk_at dksX4_isLaid_2 7 rfl rfl)
theorem dX4_isLaid_58 : decode cX4_isLaid 58 = .ok (.iconst 2, 1) := dk_5 (dk_at dksX4_isLaid_2 10 rfl rfl)
theorem dX4_isLaid_59 : decode cX4_isLaid 59 = .ok (.iload_n 2, 1) := dk_28 (dk_at dksX4_isLaid_2 11 rfl rfl)
theorem dX4_isLaid_60 : decode cX4_isLaid 60 = .ok (.sipush 1000, 3) := dk_17 3 232 (dk_at dksX4_isLaid_2 12 rfl rfl)
theorem dX4_isLaid_63 : decode cX4_isLaid 63 = .ok (.idiv, 1) := dk_108 (dk_at dksX4_isLaid_2 15 rfl rfl)
theorem dX4_isLaid_64 : decode cX4_isLaid 64 = .ok (.iastore, 1) := dk_79 (dk_at dksX4_isLaid_2 16 rfl rfl)
theorem dX4_isLaid_65 : decode cX4_isLaid 65 = .ok (.aload_n 0, 1) := dk_42 (dk_at dksX4_isLaid_2 17 rfl rfl)
theorem dX4_isLaid_66 : decode cX4_isLaid 66 = .ok (.getfield 22, 3) := dk_180 0 22 (dk_at dksX4_isLaid_2 18 rfl rfl)
theorem dX4_isLaid_69 : decode cX4_isLaid 69 = .ok (.iconst 3, 1) := dk_6 (dk_at dksX4_isLaid_2 21 rfl rfl)
theorem dX4_isLaid_70 : decode cX4_isLaid 70 = .ok (.iload_n 2, 1) := dk_28 (dk_at dksX4_isLaid_2 22 rfl rfl)
theorem dX4_isLaid_71 : decode cX4_isLaid 71 = .ok (.sipush 1000, 3) := dk_17 3 232 (dk_at dksX4_isLaid_3 0 rfl rfl)
theorem dX4_isLaid_74 : decode cX4_isLaid 74 = .ok (.irem, 1) := dk_112 (dk_at dksX4_isLaid_3 3 rfl rfl)
theorem dX4_isLaid_75 : decode cX4_isLaid 75 = .ok (.iastore, 1) := dk_79 (dk_at dksX4_isLaid_3 4 rfl rfl)
theorem dX4_isLaid_76 : decode cX4_isLaid 76 = .ok (.aload_n 0, 1) := dk_42 (dk_at dksX4_isLaid_3 5 rfl rfl)
theorem dX4_isLaid_77 : decode cX4_isLaid 77 = .ok (.iload_n 3, 1) := dk_29 (dk_at dksX4_isLaid_3 6 rfl rfl)
theorem dX4_isLaid_78 : decode cX4_isLaid 78 = .ok (.putfield 184, 3) := dk_181 0 184 (dk_at dksX4_isLaid_3 7 rfl rfl)
theorem dX4_isLaid_81 : decode cX4_isLaid 81 = .ok (.iconst 1, 1) := dk_4 (dk_at dksX4_isLaid_3 10 rfl rfl)
theorem dX4_isLaid_82 : decode cX4_isLaid 82 = .ok (.istore 4, 2) := dk_54 4 (dk_at dksX4_isLaid_3 11 rfl rfl)
theorem dX4_isLaid_84 : decode cX4_isLaid 84 = .ok (.iconst 0, 1) := dk_3 (dk_at dksX4_isLaid_3 13 rfl rfl)
theorem dX4_isLaid_85 : decode cX4_isLaid 85 = .ok (.istore 5, 2) := dk_54 5 (dk_at dksX4_isLaid_3 14 rfl rfl)
theorem dX4_isLaid_87 : decode cX4_isLaid 87 = .ok (.iload 5, 2) := dk_21 5 (dk_at dksX4_isLaid_3 16 rfl rfl)
theorem dX4_isLaid_89 : decode cX4_isLaid 89 = .ok (.iconst 4, 1) := dk_7 (dk_at dksX4_isLaid_3 18 rfl rfl)
theorem dX4_isLaid_90 : decode cX4_isLaid 90 = .ok (.if_icmp .ge 52, 3) := dk_162 0 52 (dk_at dksX4_isLaid_3 19 rfl rfl)
theorem dX4_isLaid_93 : decode cX4_isLaid 93 = .ok (.iload 4, 2) := dk_21 4 (dk_at dksX4_isLaid_3 22 rfl rfl)
theorem dX4_isLaid_95 : decode cX4_isLaid 95 = .ok (.ifCond .eq 38, 3) := dk_153 0 38 (dk_at dksX4_isLaid_4 0 rfl rfl)
theorem dX4_isLaid_98 : decode cX4_isLaid 98 = .ok (.aload_n 0, 1) := dk_42 (dk_at dksX4_isLaid_4 3 rfl rfl)
theorem dX4_isLaid_99 : decode cX4_isLaid 99 = .ok (.getfield 22, 3) := dk_180 0 22 (dk_at dksX4_isLaid_4 4 rfl rfl)
theorem dX4_isLaid_102 : decode cX4_isLaid 102 = .ok (.iload 5, 2) := dk_21 5 (dk_at dksX4_isLaid_4 7 rfl rfl)
theorem dX4_isLaid_104 : decode cX4_isLaid 104 = .ok (.iaload, 1) := dk_46 (dk_at dksX4_isLaid_4 9 rfl rfl)
theorem dX4_isLaid_105 : decode cX4_isLaid 105 = .ok (.iload 5, 2) := dk_21 5 (dk_at dksX4_isLaid_4 10 rfl rfl)
theorem dX4_isLaid_107 : decode cX4_isLaid 107 = .ok (.aload_n 0, 1) := dk_42 (dk_at dksX4_isLaid_4 12 rfl rfl)
theorem dX4_isLaid_108 : decode cX4_isLaid 108 = .ok (.getfield 7, 3) := dk_180 0 7 (dk_at dksX4_isLaid_4 13 rfl rfl)
theorem dX4_isLaid_111 : decode cX4_isLaid 111 = .ok (.iconst 0, 1) := dk_3 (dk_at dksX4_isLaid_4 16 rfl rfl)
theorem dX4_isLaid_112 : decode cX4_isLaid 112 = .ok (.iaload, 1) := dk_46 (dk_at dksX4_isLaid_4 17 rfl rfl)
theorem dX4_isLaid_113 : decode cX4_isLaid 113 = .ok (.if_icmp .ge 12, 3) := dk_162 0 12 (dk_at dksX4_isLaid_4 18 rfl rfl)
theorem dX4_isLaid_116 : decode cX4_isLaid 116 = .ok (.aload_n 0, 1) := dk_42 (dk_at dksX4_isLaid_4 21 rfl rfl)
theorem dX4_isLaid_117 : decode cX4_isLaid 117 = .ok (.iload 5, 2) := dk_21 5 (dk_at dksX4_isLaid_4 22 rfl rfl)
theorem dX4_isLaid_119 : decode cX4_isLaid 119 = .ok (.invokevirtual 205, 3) := dk_182 0 205 (dk_at dksX4_isLaid_5 0 rfl rfl)
theorem dX4_isLaid_122 : decode cX4_isLaid 122 = .ok (.goto 4, 3) := dk_167 0 4 (dk_at dksX4_isLaid_5 3 rfl rfl)
theorem dX4_isLaid_125 : decode cX4_isLaid 125 = .ok (.iconst 0, 1) := dk_3 (dk_at dksX4_isLaid_5 6 rfl rfl)
theorem dX4_isLaid_126 : decode cX4_isLaid 126 = .ok (.if_icmp .gt 7, 3) := dk_163 0 7 (dk_at dksX4_isLaid_5 7 rfl rfl)
theorem dX4_isLaid_129 : decode cX4_isLaid 129 = .ok (.iconst 1, 1) := dk_4 (dk_at dksX4_isLaid_5 10 rfl rfl)
theorem dX4_isLaid_130 : decode cX4_isLaid 130 = .ok (.goto 4, 3) := dk_167 0 4 (dk_at dksX4_isLaid_5 11 rfl rfl)
theorem dX4_isLaid_133 : decode cX4_isLaid 133 = .ok (.iconst 0, 1) := dk_3 (dk_at dksX4_isLaid_5 14 rfl rfl)
theorem dX4_isLaid_134 : decode cX4_isLaid 134 = .ok (.istore 4, 2) := dk_54 4 (dk_at dksX4_isLaid_5 15 rfl rfl)
theorem dX4_isLaid_136 : decode cX4_isLaid 136 = .ok (.iinc 5 1, 3) := dk_132 5 1 (dk_at dksX4_isLaid_5 17 rfl rfl)
theorem dX4_isLaid_139 : decode cX4_isLaid 139 = .ok (.goto (-52), 3) := dk_167 255 204 (dk_at dksX4_isLaid_5 20 rfl rfl)
theorem dX4_isLaid_142 : decode cX4_isLaid 142 = .ok (.iload 4, 2) := dk_21 4 (dk_at dksX4_isLaid_6 0 rfl rfl)
theorem dX4_isLaid_144 : decode cX4_isLaid 144 = .ok (.ireturn, 1) := dk_172 (dk_at dksX4_isLaid_6 2 rfl rfl)
def dkwX4_isSteady_1 : List UInt8 := [4, 172]
abbrev dktX4_isSteady_1 : List UInt8 := dkwX4_isSteady_1 ++ []
def dkwX4_isSteady_0 : List UInt8 := [42, 27, 28, 29, 182, 1, 24, 154, 0, 6, 16, 254, 172, 42, 182, 0, 211, 153, 0, 7, 3, 167, 0, 4]
abbrev dktX4_isSteady_0 : List UInt8 := dkwX4_isSteady_0 ++ dktX4_isSteady_1
theorem dksX4_isSteady_0 : cX4_isSteady.data.toList.drop 0 = dktX4_isSteady_0 := by decide +kernel
theorem dksX4_isSteady_1 : cX4_isSteady.data.toList.drop 24 = dktX4_isSteady_1 := dk_seg dksX4_isSteady_0 24 rfl rfl
theorem dX4_isSteady_0 : decode cX4_isSteady 0 = .ok (.aload_n 0, 1) := dk_42 (dk_at dksX4_isSteady_0 0 rfl rfl)
theorem dX4_isSteady_1 : decode cX4_isSteady 1 = .ok (.iload_n 1, 1) := dk_27 (dk_at dksX4_isSteady_0 1 rfl rfl)
theorem dX4_isSteady_2 : decode cX4_isSteady 2 = .ok (.iload_n 2, 1) := dk_28 (dk_at dksX4_isSteady_0 2 rfl rfl)
theorem dX4_isSteady_3 : decode cX4_isSteady 3 = .ok (.iload_n 3, 1) := dk_29 (dk_at dksX4_isSteady_0 3 rfl rfl)
theorem dX4_isSteady_4 : decode cX4_isSteady 4 = .ok (.invokevirtual 280, 3) := dk_182 1 24 (dk_at dksX4_isSteady_0 4 rfl rfl)
theorem dX4_isSteady_7 : decode cX4_isSteady 7 = .ok (.ifCond .ne 6, 3) := dk_154 0 6 (dk_at dksX4_isSteady_0 7 rfl rfl)
theorem dX4_isSteady_10 : decode cX4_isSteady 10 = .ok (.bipush (-2), 2) := dk_16 254 (dk_at dksX4_isSteady_0 10 rfl rfl)
theorem dX4_isSteady_12 : decode cX4_isSteady 12 = .ok (.ireturn, 1) := dk_172 (dk_at dksX4_isSteady_0 12 rfl rfl)
theorem dX4_isSteady_13 : decode cX4_isSteady 13 = .ok (.aload_n 0, 1) := dk_42 (dk_at dksX4_isSteady_0 13 rfl rfl)
theorem dX4_isSteady_14 : decode cX4_isSteady 14 = .ok (.invokevirtual 211, 3) := dk_182 0 211 (dk_at dksX4_isSteady_0 14 rfl rfl)
theorem dX4_isSteady_17 : decode cX4_isSteady 17 = .ok (.ifCond .eq 7, 3) := dk_153 0 7 (dk_at dksX4_isSteady_0 17 rfl rfl)
theorem dX4_isSteady_20 : decode cX4_isSteady 20 = .ok (.iconst 0, 1) := dk_3 (dk_at dksX4_isSteady_0 20 rfl rfl)
theorem dX4_isSteady_21 : decode cX4_isSteady 21 = .ok (.goto 4, 3) := dk_167 0 4 (dk_at dksX4_isSteady_0 21 rfl rfl)
theorem dX4_isSteady_24 : decode cX4_isSteady 24 = .ok (.iconst 1, 1) := dk_4 (dk_at dksX4_isSteady_1 0 rfl rfl)
theorem dX4_isSteady_25 : decode cX4_isSteady 25 = .ok (.ireturn, 1) := dk_172 (dk_at dksX4_isSteady_1 1 rfl rfl)
def dkwX4_index_1 : List UInt8 := [184, 1, 35, 172]
abbrev dktX4_index_1 : List UInt8 := dkwX4_index_1 ++ []
def dkwX4_index_0 : List UInt8 := [27, 3, 6, 184, 0, 68, 154, 0, 5, 2, 172, 42, 182, 0, 252, 42, 27, 182, 1, 14, 42, 182, 1, 31]
abbrev dktX4_index_0 : List UInt8 := dkwX4_index_0 ++ dktX4_index_1
theorem dksX4_index_0 : cX4_index.data.toList.drop 0 = dktX4_index_0 := by decide +kernel
theorem dksX4_index_1 : cX4_index.data.toList.drop 24 = dktX4_index_1 := dk_seg dksX4_index_0 24 rfl rfl
theorem dX4_index_0 : decode cX4_index 0 = .ok (.iload_n 1, 1) := dk_27 (dk_at dksX4_index_0 0 rfl rfl)
theorem dX4_index_1 : decode cX4_index 1 = .ok (.iconst 0, 1) := dk_3 (dk_at dksX4_index_0 1 rfl rfl)
theorem dX4_index_2 : decode cX4_index 2 = .ok (.iconst 3, 1) := dk_6 (dk_at dksX4_index_0 2 rfl rfl)
theorem dX4_index_3 : decode cX4_index 3 = .ok (.invokestatic 68, 3) := dk_184 0 68 (dk_at dksX4_index_0 3 rfl rfl)
theorem dX4_index_6 : decode cX4_index 6 = .ok (.ifCond .ne 5, 3) := dk_154 0 5 (dk_at dksX4_index_0 6 rfl rfl)
theorem dX4_index_9 : decode cX4_index 9 = .ok (.iconst (-1), 1) := dk_2 (dk_at dksX4_index_0 9 rfl rfl)
theorem dX4_index_10 : decode cX4_index 10 = .ok (.ireturn, 1) := dk_172 (dk_at dksX4_index_0 10 rfl rfl)
theorem dX4_index_11 : decode cX4_index 11 = .ok (.aload_n 0, 1) := dk_42 (dk_at dksX4_index_0 11 rfl rfl)
theorem dX4_index_12 : decode cX4_index 12 = .ok (.invokevirtual 252, 3) := dk_182 0 252 (dk_at dksX4_index_0 12 rfl rfl)
theorem dX4_index_15 : decode cX4_index 15 = .ok (.aload_n 0, 1) := dk_42 (dk_at dksX4_index_0 15 rfl rfl)
theorem dX4_index_16 : decode cX4_index 16 = .ok (.iload_n 1, 1) := dk_27 (dk_at dksX4_index_0 16 rfl rfl)
theorem dX4_index_17 : decode cX4_index 17 = .ok (.invokevirtual 270, 3) := dk_182 1 14 (dk_at dksX4_index_0 17 rfl rfl)
theorem dX4_index_20 : decode cX4_index 20 = .ok (.aload_n 0, 1) := dk_42 (dk_at dksX4_index_0 20 rfl rfl)
theorem dX4_index_21 : decode cX4_index 21 = .ok (.invokevirtual 287, 3) := dk_182 1 31 (dk_at dksX4_index_0 21 rfl rfl)
theorem dX4_index_24 : decode cX4_index 24 = .ok (.invokestatic 291, 3) := dk_184 1 35 (dk_at dksX4_index_1 0 rfl rfl)
theorem dX4_index_27 : decode cX4_index 27 = .ok (.ireturn, 1) := dk_172 (dk_at dksX4_index_1 3 rfl rfl)
def dkwX4_indexNow_2 : List UInt8 := [154, 0, 7, 12, 167, 0, 7, 35, 28, 134, 110, 174]
abbrev dktX4_indexNow_2 : List UInt8 := dkwX4_indexNow_2 ++ []
def dkwX4_indexNow_1 : List UInt8 := [182, 0, 205, 134, 106, 98, 68, 28, 42, 29, 182, 0, 205, 96, 61, 132, 3, 1, 167, 255, 220, 28]
abbrev dktX4_indexNow_1 : List UInt8 := dkwX4_indexNow_1 ++ dktX4_indexNow_2
def dkwX4_indexNow_0 : List UInt8 := [11, 68, 3, 61, 3, 62, 29, 42, 180, 0, 7, 3, 46, 162, 0, 32, 35, 42, 29, 182, 1, 27, 42, 29]
abbrev dktX4_indexNow_0 : List UInt8 := dkwX4_indexNow_0 ++ dktX4_indexNow_1
theorem dksX4_indexNow_0 : cX4_indexNow.data.toList.drop 0 = dktX4_indexNow_0 := by decide +kernel
theorem dksX4_indexNow_1 : cX4_indexNow.data.toList.drop 24 = dktX4_indexNow_1 := dk_seg dksX4_indexNow_0 24 rfl rfl
theorem dksX4_indexNow_2 : cX4_indexNow.data.toList.drop 46 = dktX4_indexNow_2 := dk_seg dksX4_indexNow_1 22 rfl rfl
theorem dX4_indexNow_0 : decode cX4_indexNow 0 = .ok (.fconst 0, 1) := dk_11 (dk_at dksX4_indexNow_0 0 rfl rfl)
theorem dX4_indexNow_1 : decode cX4_indexNow 1 = .ok (.fstore_n 1, 1) := dk_68 (dk_at dksX4_indexNow_0 1 rfl rfl)
theorem dX4_indexNow_2 : decode cX4_indexNow 2 = .ok (.iconst 0, 1) := dk_3 (dk_at dksX4_indexNow_0 2 rfl rfl)
theorem dX4_indexNow_3 : decode cX4_indexNow 3 = .ok (.istore_n 2, 1) := dk_61 (dk_at dksX4_indexNow_0 3 rfl rfl)
theorem dX4_indexNow_4 : decode cX4_indexNow 4 = .ok (.iconst 0, 1) := dk_3 (dk_at dksX4_indexNow_0 4 rfl rfl)
theorem dX4_indexNow_5 : decode cX4_indexNow 5 = .ok (.istore_n 3, 1) := dk_62 (dk_at dksX4_indexNow_0 5 rfl rfl)
theorem dX4_indexNow_6 : decode cX4_indexNow 6 = .ok (.iload_n 3, 1) := dk_29 (dk_at dksX4_indexNow_0 6 rfl rfl)
theorem dX4_indexNow_7 : decode cX4_indexNow 7 = .ok (.aload_n 0, 1) := dk_42 (dk_at dksX4_indexNow_0 7 rfl rfl)
theorem dX4_indexNow_8 : decode cX4_indexNow 8 = .ok (.getfield 7, 3) := dk_180 0 7 (dk_at dksX4_indexNow_0 8 rfl rfl)
theorem dX4_indexNow_11 : decode cX4_indexNow 11 = .ok (.iconst 0, 1) := dk_3 (dk_at dksX4_indexNow_0 11 rfl rfl)
theorem dX4_indexNow_12 : decode cX4_indexNow 12 = .ok (.iaload, 1) := dk_46 (dk_at dksX4_indexNow_0 12 rfl rfl)
theorem dX4_indexNow_13 : decode cX4_indexNow 13 = .ok (.if_icmp .ge 32, 3) := dk_162 0 32 (dk_at dksX4_indexNow_0 13 rfl rfl)
theorem dX4_indexNow_16 : decode cX4_indexNow 16 = .ok (.fload_n 1, 1) := dk_35 (dk_at dksX4_indexNow_0 16 rfl rfl)
theorem dX4_indexNow_17 : decode cX4_indexNow 17 = .ok (.aload_n 0, 1) := dk_42 (dk_at dksX4_indexNow_0 17 rfl rfl)
theorem dX4_indexNow_18 : decode cX4_indexNow 18 = .ok (.iload_n 3, 1) := dk_29 (dk_at dksX4_indexNow_0 18 rfl rfl)
theorem dX4_indexNow_19 : decode cX4_indexNow 19 = .ok (.invokevirtual 283, 3) := dk_182 1 27 (dk_at dksX4_indexNow_0 19 rfl rfl)
theorem dX4_indexNow_22 : decode cX4_indexNow 22 = .ok (.aload_n 0, 1) := dk_42 (dk_at dksX4_indexNow_0 22 rfl rfl)
theorem dX4_indexNow_23 : decode cX4_indexNow 23 = .ok (.iload_n 3, 1) := dk_29 (dk_at dksX4_indexNow_0 23 rfl rfl)
theorem dX4_indexNow_24 : decode cX4_indexNow 24 = .ok (.invokevirtual 205, 3) := dk_182 0 205 (dk_at dksX4_indexNow_1 0 rfl rfl)
theorem dX4_indexNow_27 : decode cX4_indexNow 27 = .ok (.i2f, 1) := dk_134 (dk_at dksX4_indexNow_1 3 rfl rfl)
theorem dX4_indexNow_28 : decode cX4_indexNow 28 = .ok (.fmul, 1) := dk_106 (dk_at dksX4_indexNow_1 4 rfl rfl)
theorem dX4_indexNow_29 : decode cX4_indexNow 29 = .ok (.fadd, 1) := dk_98 (dk_at dksX4_indexNow_1 5 rfl rfl)
theorem dX4_indexNow_30 : decode cX4_indexNow 30 = .ok (.fstore_n 1, 1) := dk_68 (dk_at dksX4_indexNow_1 6 rfl rfl)
theorem dX4_indexNow_31 : decode cX4_indexNow 31 = .ok (.iload_n 2, 1) := dk_28 (dk_at dksX4_indexNow_1 7 rfl rfl)
theorem dX4_indexNow_32 : decode cX4_indexNow 32 = .ok (.aload_n 0, 1) := dk_42 (dk_at dksX4_indexNow_1 8 rfl rfl)
theorem dX4_indexNow_33 : decode cX4_indexNow 33 = .ok (.iload_n 3, 1) := dk_29 (dk_at dksX4_indexNow_1 9 rfl rfl)
theorem dX4_indexNow_34 : decode cX4_indexNow 34 = .ok (.invokevirtual 205, 3) := dk_182 0 205 (dk_at dksX4_indexNow_1 10 rfl rfl)
theorem dX4_indexNow_37 : decode cX4_indexNow 37 = .ok (.iadd, 1) := dk_96 (dk_at dksX4_indexNow_1 13 rfl rfl)
theorem dX4_indexNow_38 : decode cX4_indexNow 38 = .ok (.istore_n 2, 1) := dk_61 (dk_at dksX4_indexNow_1 14 rfl rfl)
theorem dX4_indexNow_39 : decode cX4_indexNow 39 = .ok (.iinc 3 1, 3) := dk_132 3 1 (dk_at dksX4_indexNow_1 15 rfl rfl)
theorem dX4_indexNow_42 : decode cX4_indexNow 42 = .ok (.goto (-36), 3) := dk_167 255 220 (dk_at dksX4_indexNow_1 18 rfl rfl)
theorem dX4_indexNow_45 : decode cX4_indexNow 45 = .ok (.iload_n 2, 1) := dk_28 (dk_at dksX4_indexNow_1 21 rfl rfl)
theorem dX4_indexNow_46 : decode cX4_indexNow 46 = .ok (.ifCond .ne 7, 3) := dk_154 0 7 (dk_at dksX4_indexNow_2 0 rfl rfl)
theorem dX4_indexNow_49 : decode cX4_indexNow 49 = .ok (.fconst 1, 1) := dk_12 (dk_at dksX4_indexNow_2 3 rfl rfl)
theorem dX4_indexNow_50 : decode cX4_indexNow 50 = .ok (.goto 7, 3) := dk_167 0 7 (dk_at dksX4_indexNow_2 4 rfl rfl)
theorem dX4_indexNow_53 : decode cX4_indexNow 53 = .ok (.fload_n 1, 1) := dk_35 (dk_at dksX4_indexNow_2 7 rfl rfl)
theorem dX4_indexNow_54 : decode cX4_indexNow 54 = .ok (.iload_n 2, 1) := dk_28 (dk_at dksX4_indexNow_2 8 rfl rfl)
theorem dX4_indexNow_55 : decode cX4_indexNow 55 = .ok (.i2f, 1) := dk_134 (dk_at dksX4_indexNow_2 9 rfl rfl)
theorem dX4_indexNow_56 : decode cX4_indexNow 56 = .ok (.fdiv, 1) := dk_110 (dk_at dksX4_indexNow_2 10 rfl rfl)
theorem dX4_indexNow_57 : decode cX4_indexNow 57 = .ok (.freturn, 1) := dk_174 (dk_at dksX4_indexNow_2 11 rfl rfl)
def dkwX4_ratioOf_1 : List UInt8 := [182, 0, 178, 134, 28, 134, 110, 174]
abbrev dktX4_ratioOf_1 : List UInt8 := dkwX4_ratioOf_1 ++ []
def dkwX4_ratioOf_0 : List UInt8 := [42, 27, 3, 182, 0, 178, 61, 28, 154, 0, 7, 12, 167, 0, 18, 42, 27, 42, 180, 0, 22, 27, 46]
abbrev dktX4_ratioOf_0 : List UInt8 := dkwX4_ratioOf_0 ++ dktX4_ratioOf_1
theorem dksX4_ratioOf_0 : cX4_ratioOf.data.toList.drop 0 = dktX4_ratioOf_0 := by decide +kernel
theorem dksX4_ratioOf_1 : cX4_ratioOf.data.toList.drop 23 = dktX4_ratioOf_1 := dk_seg dksX4_ratioOf_0 23 rfl rfl
theorem dX4_ratioOf_0 : decode cX4_ratioOf 0 = .ok (.aload_n 0, 1) := dk_42 (dk_at dksX4_ratioOf_0 0 rfl rfl)
theorem dX4_ratioOf_1 : decode cX4_ratioOf 1 = .ok (.iload_n 1, 1) := dk_27 (dk_at dksX4_ratioOf_0 1 rfl rfl)
theorem dX4_ratioOf_2 : decode cX4_ratioOf 2 = .ok (.iconst 0, 1) := dk_3 (dk_at dksX4_ratioOf_0 2 rfl rfl)
theorem dX4_ratioOf_3 : decode cX4_ratioOf 3 = .ok (.invokevirtual 178, 3) := dk_182 0 178 (dk_at dksX4_ratioOf_0 3 rfl rfl)
theorem dX4_ratioOf_6 : decode cX4_ratioOf 6 = .ok (.istore_n 2, 1) := dk_61 (dk_at dksX4_ratioOf_0 6 rfl rfl)
theorem dX4_ratioOf_7 : decode cX4_ratioOf 7 = .ok (.iload_n 2, 1) := dk_28 (dk_at dksX4_ratioOf_0 7 rfl rfl)
theorem dX4_ratioOf_8 : decode cX4_ratioOf 8 = .ok (.ifCond .ne 7, 3) := dk_154 0 7 (dk_at dksX4_ratioOf_0 8 rfl rfl)
theorem dX4_ratioOf_11 : decode cX4_ratioOf 11 = .ok (.fconst 1, 1) := dk_12 (dk_at dksX4_ratioOf_0 11 rfl rfl)
theorem dX4_ratioOf_12 : decode cX4_ratioOf 12 = .ok (.goto 18, 3) := dk_167 0 18 (dk_at dksX4_ratioOf_0 12 rfl rfl)
theorem dX4_ratioOf_15 : decode cX4_ratioOf 15 = .ok (.aload_n 0, 1) := dk_42 (dk_at dksX4_ratioOf_0 15 rfl rfl)
theorem dX4_ratioOf_16 : decode cX4_ratioOf 16 = .ok (.iload_n 1, 1) := dk_27 (dk_at dksX4_ratioOf_0 16 rfl rfl)
theorem dX4_ratioOf_17 : decode cX4_ratioOf 17 = .ok (.aload_n 0, 1) := dk_42 (dk_at dksX4_ratioOf_0 17 rfl rfl)
theorem dX4_ratioOf_18 : decode cX4_ratioOf 18 = .ok (.getfield 22, 3) := dk_180 0 22 (dk_at dksX4_ratioOf_0 18 rfl rfl)
theorem dX4_ratioOf_21 : decode cX4_ratioOf 21 = .ok (.iload_n 1, 1) := dk_27 (dk_at dksX4_ratioOf_0 21 rfl rfl)
theorem dX4_ratioOf_22 : decode cX4_ratioOf 22 = .ok (.iaload, 1) := dk_46 (dk_at dksX4_ratioOf_0 22 rfl rfl)
theorem dX4_ratioOf_23 : decode cX4_ratioOf 23 = .ok (.invokevirtual 178, 3) := dk_182 0 178 (dk_at dksX4_ratioOf_1 0 rfl rfl)
theorem dX4_ratioOf_26 : decode cX4_ratioOf 26 = .ok (.i2f, 1) := dk_134 (dk_at dksX4_ratioOf_1 3 rfl rfl)
theorem dX4_ratioOf_27 : decode cX4_ratioOf 27 = .ok (.iload_n 2, 1) := dk_28 (dk_at dksX4_ratioOf_1 4 rfl rfl)
theorem dX4_ratioOf_28 : decode cX4_ratioOf 28 = .ok (.i2f, 1) := dk_134 (dk_at dksX4_ratioOf_1 5 rfl rfl)
theorem dX4_ratioOf_29 : decode cX4_ratioOf 29 = .ok (.fdiv, 1) := dk_110 (dk_at dksX4_ratioOf_1 6 rfl rfl)
theorem dX4_ratioOf_30 : decode cX4_ratioOf 30 = .ok (.freturn, 1) := dk_174 (dk_at dksX4_ratioOf_1 7 rfl rfl)
def dkwX4_drop_1 : List UInt8 := [182, 1, 31, 102, 19, 1, 41, 106, 139, 172]
abbrev dktX4_drop_1 : List UInt8 := dkwX4_drop_1 ++ []
def dkwX4_drop_0 : List UInt8 := [27, 3, 6, 184, 0, 68, 154, 0, 5, 2, 172, 42, 182, 0, 252, 42, 27, 182, 1, 14, 12, 42]
abbrev dktX4_drop_0 : List UInt8 := dkwX4_drop_0 ++ dktX4_drop_1
theorem dksX4_drop_0 : cX4_drop.data.toList.drop 0 = dktX4_drop_0 := by decide +kernel
theorem dksX4_drop_1 : cX4_drop.data.toList.drop 22 = dktX4_drop_1 := dk_seg dksX4_drop_0 22 rfl rfl
theorem dX4_drop_0 : decode cX4_drop 0 = .ok (.iload_n 1, 1) := dk_27 (dk_at dksX4_drop_0 0 rfl rfl)
theorem dX4_drop_1 : decode cX4_drop 1 = .ok (.iconst 0, 1) := dk_3 (dk_at dksX4_drop_0 1 rfl rfl)
theorem dX4_drop_2 : decode cX4_drop 2 = .ok (.iconst 3, 1) := dk_6 (dk_at dksX4_drop_0 2 rfl rfl)
theorem dX4_drop_3 : decode cX4_drop 3 = .ok (.invokestatic 68, 3) := dk_184 0 68 (dk_at dksX4_drop_0 3 rfl rfl)
theorem dX4_drop_6 : decode cX4_drop 6 = .ok (.ifCond .ne 5, 3) := dk_154 0 5 (dk_at dksX4_drop_0 6 rfl rfl)
theorem dX4_drop_9 : decode cX4_drop 9 = .ok (.iconst (-1), 1) := dk_2 (dk_at dksX4_drop_0 9 rfl rfl)
theorem dX4_drop_10 : decode cX4_drop 10 = .ok (.ireturn, 1) := dk_172 (dk_at dksX4_drop_0 10 rfl rfl)
theorem dX4_drop_11 : decode cX4_drop 11 = .ok (.aload_n 0, 1) := dk_42 (dk_at dksX4_drop_0 11 rfl rfl)
theorem dX4_drop_12 : decode cX4_drop 12 = .ok (.invokevirtual 252, 3) := dk_182 0 252 (dk_at dksX4_drop_0 12 rfl rfl)
theorem dX4_drop_15 : decode cX4_drop 15 = .ok (.aload_n 0, 1) := dk_42 (dk_at dksX4_drop_0 15 rfl rfl)
theorem dX4_drop_16 : decode cX4_drop 16 = .ok (.iload_n 1, 1) := dk_27 (dk_at dksX4_drop_0 16 rfl rfl)
theorem dX4_drop_17 : decode cX4_drop 17 = .ok (.invokevirtual 270, 3) := dk_182 1 14 (dk_at dksX4_drop_0 17 rfl rfl)
theorem dX4_drop_20 : decode cX4_drop 20 = .ok (.fconst 1, 1) := dk_12 (dk_at dksX4_drop_0 20 rfl rfl)
theorem dX4_drop_21 : decode cX4_drop 21 = .ok (.aload_n 0, 1) := dk_42 (dk_at dksX4_drop_0 21 rfl rfl)
theorem dX4_drop_22 : decode cX4_drop 22 = .ok (.invokevirtual 287, 3) := dk_182 1 31 (dk_at dksX4_drop_1 0 rfl rfl)
theorem dX4_drop_25 : decode cX4_drop 25 = .ok (.fsub, 1) := dk_102 (dk_at dksX4_drop_1 3 rfl rfl)
theorem dX4_drop_26 : decode cX4_drop 26 = .ok (.ldc_w 297, 3) := dk_19 1 41 (dk_at dksX4_drop_1 4 rfl rfl)
theorem dX4_drop_29 : decode cX4_drop 29 = .ok (.fmul, 1) := dk_106 (dk_at dksX4_drop_1 7 rfl rfl)
theorem dX4_drop_30 : decode cX4_drop 30 = .ok (.f2i, 1) := dk_139 (dk_at dksX4_drop_1 8 rfl rfl)
theorem dX4_drop_31 : decode cX4_drop 31 = .ok (.ireturn, 1) := dk_172 (dk_at dksX4_drop_1 9 rfl rfl)
def dkwX4_ratio_1 : List UInt8 := [27, 182, 1, 14, 42, 28, 182, 1, 27, 184, 1, 35, 172]
abbrev dktX4_ratio_1 : List UInt8 := dkwX4_ratio_1 ++ []
def dkwX4_ratio_0 : List UInt8 := [27, 3, 6, 184, 0, 68, 153, 0, 11, 42, 28, 182, 0, 224, 154, 0, 5, 2, 172, 42, 182, 0, 252, 42]
abbrev dktX4_ratio_0 : List UInt8 := dkwX4_ratio_0 ++ dktX4_ratio_1
theorem dksX4_ratio_0 : cX4_ratio.data.toList.drop 0 = dktX4_ratio_0 := by decide +kernel
theorem dksX4_ratio_1 : cX4_ratio.data.toList.drop 24 = dktX4_ratio_1 := dk_seg dksX4_ratio_0 24 rfl rfl
theorem dX4_ratio_0 : decode cX4_ratio 0 = .ok (.iload_n 1, 1) := dk_27 (dk_at dksX4_ratio_0 0 rfl rfl)
theorem dX4_ratio_1 : decode cX4_ratio 1 = .ok (.iconst 0, 1) := dk_3 (dk_at dksX4_ratio_0 1 rfl rfl)
theorem dX4_ratio_2 : decode cX4_ratio 2 = .ok (.iconst 3, 1) := dk_6 (dk_at dksX4_ratio_0 2 rfl rfl)
theorem dX4_ratio_3 : decode cX4_ratio 3 = .ok (.invokestatic 68, 3) := dk_184 0 68 (dk_at dksX4_ratio_0 3 rfl rfl)
theorem dX4_ratio_6 : decode cX4_ratio 6 = .ok (.ifCond .eq 11, 3) := dk_153 0 11 (dk_at dksX4_ratio_0 6 rfl rfl)
theorem dX4_ratio_9 : decode cX4_ratio 9 = .ok (.aload_n 0, 1) := dk_42 (dk_at dksX4_ratio_0 9 rfl rfl)
theorem dX4_ratio_10 : decode cX4_ratio 10 = .ok (.iload_n 2, 1) := dk_28 (dk_at dksX4_ratio_0 10 rfl rfl)
theorem dX4_ratio_11 : decode cX4_ratio 11 = .ok (.invokevirtual 224, 3) := dk_182 0 224 (dk_at dksX4_ratio_0 11 rfl rfl)
theorem dX4_ratio_14 : decode cX4_ratio 14 = .ok (.ifCond .ne 5, 3) := dk_154 0 5 (dk_at dksX4_ratio_0 14 rfl rfl)
theorem dX4_ratio_17 : decode cX4_ratio 17 = .ok (.iconst (-1), 1) := dk_2 (dk_at dksX4_ratio_0 17 rfl rfl)
theorem dX4_ratio_18 : decode cX4_ratio 18 = .ok (.ireturn, 1) := dk_172 (dk_at dksX4_ratio_0 18 rfl rfl)
theorem dX4_ratio_19 : decode cX4_ratio 19 = .ok (.aload_n 0, 1) := dk_42 (dk_at dksX4_ratio_0 19 rfl rfl)
theorem dX4_ratio_20 : decode cX4_ratio 20 = .ok (.invokevirtual 252, 3) := dk_182 0 252 (dk_at dksX4_ratio_0 20 rfl rfl)
theorem dX4_ratio_23 : decode cX4_ratio 23 = .ok (.aload_n 0, 1) := dk_42 (dk_at dksX4_ratio_0 23 rfl rfl)
theorem dX4_ratio_24 : decode cX4_ratio 24 = .ok (.iload_n 1, 1) := dk_27 (dk_at dksX4_ratio_1 0 rfl rfl)
theorem dX4_ratio_25 : decode cX4_ratio 25 = .ok (.invokevirtual 270, 3) := dk_182 1 14 (dk_at dksX4_ratio_1 1 rfl rfl)
theorem dX4_ratio_28 : decode cX4_ratio 28 = .ok (.aload_n 0, 1) := dk_42 (dk_at dksX4_ratio_1 4 rfl rfl)
theorem dX4_ratio_29 : decode cX4_ratio 29 = .ok (.iload_n 2, 1) := dk_28 (dk_at dksX4_ratio_1 5 rfl rfl)
theorem dX4_ratio_30 : decode cX4_ratio 30 = .ok (.invokevirtual 283, 3) := dk_182 1 27 (dk_at dksX4_ratio_1 6 rfl rfl)
theorem dX4_ratio_33 : decode cX4_ratio 33 = .ok (.invokestatic 291, 3) := dk_184 1 35 (dk_at dksX4_ratio_1 9 rfl rfl)
theorem dX4_ratio_36 : decode cX4_ratio 36 = .ok (.ireturn, 1) := dk_172 (dk_at dksX4_ratio_1 12 rfl rfl)
def dkwX4_mood_0 : List UInt8 := [42, 182, 1, 44, 184, 1, 48, 173]
abbrev dktX4_mood_0 : List UInt8 := dkwX4_mood_0 ++ []
theorem dksX4_mood_0 : cX4_mood.data.toList.drop 0 = dktX4_mood_0 := by decide +kernel
theorem dX4_mood_0 : decode cX4_mood 0 = .ok (.aload_n 0, 1) := dk_42 (dk_at dksX4_mood_0 0 rfl rfl)
theorem dX4_mood_1 : decode cX4_mood 1 = .ok (.invokevirtual 300, 3) := dk_182 1 44 (dk_at dksX4_mood_0 1 rfl rfl)
theorem dX4_mood_4 : decode cX4_mood 4 = .ok (.invokestatic 304, 3) := dk_184 1 48 (dk_at dksX4_mood_0 4 rfl rfl)
theorem dX4_mood_7 : decode cX4_mood 7 = .ok (.lreturn, 1) := dk_173 (dk_at dksX4_mood_0 7 rfl rfl)
def dkwX4_moodNow_1 : List UInt8 := [182, 1, 31, 141, 20, 1, 42, 111, 99, 72, 167, 255, 233, 39, 175]
abbrev dktX4_moodNow_1 : List UInt8 := dkwX4_moodNow_1 ++ []
def dkwX4_moodNow_0 : List UInt8 := [42, 182, 0, 252, 42, 182, 0, 215, 15, 72, 42, 182, 0, 211, 153, 0, 22, 39, 20, 1, 42, 111, 42]
abbrev dktX4_moodNow_0 : List UInt8 := dkwX4_moodNow_0 ++ dktX4_moodNow_1
theorem dksX4_moodNow_0 : cX4_moodNow.data.toList.drop 0 = dktX4_moodNow_0 := by decide +kernel
theorem dksX4_moodNow_1 : cX4_moodNow.data.toList.drop 23 = dktX4_moodNow_1 := dk_seg dksX4_moodNow_0 23 rfl rfl
theorem dX4_moodNow_0 : decode cX4_moodNow 0 = .ok (.aload_n 0, 1) := dk_42 (dk_at dksX4_moodNow_0 0 rfl rfl)
theorem dX4_moodNow_1 : decode cX4_moodNow 1 = .ok (.invokevirtual 252, 3) := dk_182 0 252 (dk_at dksX4_moodNow_0 1 rfl rfl)
theorem dX4_moodNow_4 : decode cX4_moodNow 4 = .ok (.aload_n 0, 1) := dk_42 (dk_at dksX4_moodNow_0 4 rfl rfl)
theorem dX4_moodNow_5 : decode cX4_moodNow 5 = .ok (.invokevirtual 215, 3) := dk_182 0 215 (dk_at dksX4_moodNow_0 5 rfl rfl)
theorem dX4_moodNow_8 : decode cX4_moodNow 8 = .ok (.dconst 1, 1) := dk_15 (dk_at dksX4_moodNow_0 8 rfl rfl)
theorem dX4_moodNow_9 : decode cX4_moodNow 9 = .ok (.dstore_n 1, 1) := dk_72 (dk_at dksX4_moodNow_0 9 rfl rfl)
theorem dX4_moodNow_10 : decode cX4_moodNow 10 = .ok (.aload_n 0, 1) := dk_42 (dk_at dksX4_moodNow_0 10 rfl rfl)
theorem dX4_moodNow_11 : decode cX4_moodNow 11 = .ok (.invokevirtual 211, 3) := dk_182 0 211 (dk_at dksX4_moodNow_0 11 rfl rfl)
theorem dX4_moodNow_14 : decode cX4_moodNow 14 = .ok (.ifCond .eq 22, 3) := dk_153 0 22 (dk_at dksX4_moodNow_0 14 rfl rfl)
theorem dX4_moodNow_17 : decode cX4_moodNow 17 = .ok (.dload_n 1, 1) := dk_39 (dk_at dksX4_moodNow_0 17 rfl rfl)
theorem dX4_moodNow_18 : decode cX4_moodNow 18 = .ok (.ldc2_w 298, 3) := dk_20 1 42 (dk_at dksX4_moodNow_0 18 rfl rfl)
theorem dX4_moodNow_21 : decode cX4_moodNow 21 = .ok (.ddiv, 1) := dk_111 (dk_at dksX4_moodNow_0 21 rfl rfl)
theorem dX4_moodNow_22 : decode cX4_moodNow 22 = .ok (.aload_n 0, 1) := dk_42 (dk_at dksX4_moodNow_0 22 rfl rfl)
theorem dX4_moodNow_23 : decode cX4_moodNow 23 = .ok (.invokevirtual 287, 3) := dk_182 1 31 (dk_at dksX4_moodNow_1 0 rfl rfl)
theorem dX4_moodNow_26 : decode cX4_moodNow 26 = .ok (.f2d, 1) := dk_141 (dk_at dksX4_moodNow_1 3 rfl rfl)
theorem dX4_moodNow_27 : decode cX4_moodNow 27 = .ok (.ldc2_w 298, 3) := dk_20 1 42 (dk_at dksX4_moodNow_1 4 rfl rfl)
theorem dX4_moodNow_30 : decode cX4_moodNow 30 = .ok (.ddiv, 1) := dk_111 (dk_at dksX4_moodNow_1 7 rfl rfl)
theorem dX4_moodNow_31 : decode cX4_moodNow 31 = .ok (.dadd, 1) := dk_99 (dk_at dksX4_moodNow_1 8 rfl rfl)
theorem dX4_moodNow_32 : decode cX4_moodNow 32 = .ok (.dstore_n 1, 1) := dk_72 (dk_at dksX4_moodNow_1 9 rfl rfl)
theorem dX4_moodNow_33 : decode cX4_moodNow 33 = .ok (.goto (-23), 3) := dk_167 255 233 (dk_at dksX4_moodNow_1 10 rfl rfl)
theorem dX4_moodNow_36 : decode cX4_moodNow 36 = .ok (.dload_n 1, 1) := dk_39 (dk_at dksX4_moodNow_1 13 rfl rfl)
theorem dX4_moodNow_37 : decode cX4_moodNow 37 = .ok (.dreturn, 1) := dk_175 (dk_at dksX4_moodNow_1 14 rfl rfl)
def dkwX4_hundredths_0 : List UInt8 := [42, 182, 1, 44, 20, 1, 54, 107, 142, 172]
abbrev dktX4_hundredths_0 : List UInt8 := dkwX4_hundredths_0 ++ []
theorem dksX4_hundredths_0 : cX4_hundredths.data.toList.drop 0 = dktX4_hundredths_0 := by decide +kernel
theorem dX4_hundredths_0 : decode cX4_hundredths 0 = .ok (.aload_n 0, 1) := dk_42 (dk_at dksX4_hundredths_0 0 rfl rfl)
theorem dX4_hundredths_1 : decode cX4_hundredths 1 = .ok (.invokevirtual 300, 3) := dk_182 1 44 (dk_at dksX4_hundredths_0 1 rfl rfl)
theorem dX4_hundredths_4 : decode cX4_hundredths 4 = .ok (.ldc2_w 310, 3) := dk_20 1 54 (dk_at dksX4_hundredths_0 4 rfl rfl)
theorem dX4_hundredths_7 : decode cX4_hundredths 7 = .ok (.dmul, 1) := dk_107 (dk_at dksX4_hundredths_0 7 rfl rfl)
theorem dX4_hundredths_8 : decode cX4_hundredths 8 = .ok (.d2i, 1) := dk_142 (dk_at dksX4_hundredths_0 8 rfl rfl)
theorem dX4_hundredths_9 : decode cX4_hundredths 9 = .ok (.ireturn, 1) := dk_172 (dk_at dksX4_hundredths_0 9 rfl rfl)
def dkwX4_rescue_2 : List UInt8 := [182, 1, 2, 172]
abbrev dktX4_rescue_2 : List UInt8 := dkwX4_rescue_2 ++ []
def dkwX4_rescue_1 : List UInt8 := [154, 0, 5, 2, 172, 42, 182, 0, 252, 42, 180, 0, 28, 27, 28, 79, 42, 182, 0, 255, 42, 29]
abbrev dktX4_rescue_1 : List UInt8 := dkwX4_rescue_1 ++ dktX4_rescue_2
def dkwX4_rescue_0 : List UInt8 := [42, 27, 182, 0, 237, 153, 0, 22, 28, 3, 17, 39, 15, 184, 0, 68, 153, 0, 11, 42, 29, 182, 1, 11]
abbrev dktX4_rescue_0 : List UInt8 := dkwX4_rescue_0 ++ dktX4_rescue_1
theorem dksX4_rescue_0 : cX4_rescue.data.toList.drop 0 = dktX4_rescue_0 := by decide +kernel
theorem dksX4_rescue_1 : cX4_rescue.data.toList.drop 24 = dktX4_rescue_1 := dk_seg dksX4_rescue_0 24 rfl rfl
theorem dksX4_rescue_2 : cX4_rescue.data.toList.drop 46 = dktX4_rescue_2 := dk_seg dksX4_rescue_1 22 rfl rfl
theorem dX4_rescue_0 : decode cX4_rescue 0 = .ok (.aload_n 0, 1) := dk_42 (dk_at dksX4_rescue_0 0 rfl rfl)
theorem dX4_rescue_1 : decode cX4_rescue 1 = .ok (.iload_n 1, 1) := dk_27 (dk_at dksX4_rescue_0 1 rfl rfl)
theorem dX4_rescue_2 : decode cX4_rescue 2 = .ok (.invokevirtual 237, 3) := dk_182 0 237 (dk_at dksX4_rescue_0 2 rfl rfl)
theorem dX4_rescue_5 : decode cX4_rescue 5 = .ok (.ifCond .eq 22, 3) := dk_153 0 22 (dk_at dksX4_rescue_0 5 rfl rfl)
theorem dX4_rescue_8 : decode cX4_rescue 8 = .ok (.iload_n 2, 1) := dk_28 (dk_at dksX4_rescue_0 8 rfl rfl)
theorem dX4_rescue_9 : decode cX4_rescue 9 = .ok (.iconst 0, 1) := dk_3 (dk_at dksX4_rescue_0 9 rfl rfl)
theorem dX4_rescue_10 : decode cX4_rescue 10 = .ok (.sipush 9999, 3) := dk_17 39 15 (dk_at dksX4_rescue_0 10 rfl rfl)
theorem dX4_rescue_13 : decode cX4_rescue 13 = .ok (.invokestatic 68, 3) := dk_184 0 68 (dk_at dksX4_rescue_0 13 rfl rfl)
theorem dX4_rescue_16 : decode cX4_rescue 16 = .ok (.ifCond .eq 11, 3) := dk_153 0 11 (dk_at dksX4_rescue_0 16 rfl rfl)
theorem dX4_rescue_19 : decode cX4_rescue 19 = .ok (.aload_n 0, 1) := dk_42 (dk_at dksX4_rescue_0 19 rfl rfl)
theorem dX4_rescue_20 : decode cX4_rescue 20 = .ok (.iload_n 3, 1) := dk_29 (dk_at dksX4_rescue_0 20 rfl rfl)
theorem dX4_rescue_21 : decode cX4_rescue 21 = .ok (.invokevirtual 267, 3) := dk_182 1 11 (dk_at dksX4_rescue_0 21 rfl rfl)
theorem dX4_rescue_24 : decode cX4_rescue 24 = .ok (.ifCond .ne 5, 3) := dk_154 0 5 (dk_at dksX4_rescue_1 0 rfl rfl)
theorem dX4_rescue_27 : decode cX4_rescue 27 = .ok (.iconst (-1), 1) := dk_2 (dk_at dksX4_rescue_1 3 rfl rfl)
theorem dX4_rescue_28 : decode cX4_rescue 28 = .ok (.ireturn, 1) := dk_172 (dk_at dksX4_rescue_1 4 rfl rfl)
theorem dX4_rescue_29 : decode cX4_rescue 29 = .ok (.aload_n 0, 1) := dk_42 (dk_at dksX4_rescue_1 5 rfl rfl)
theorem dX4_rescue_30 : decode cX4_rescue 30 = .ok (.invokevirtual 252, 3) := dk_182 0 252 (dk_at dksX4_rescue_1 6 rfl rfl)
theorem dX4_rescue_33 : decode cX4_rescue 33 = .ok (.aload_n 0, 1) := dk_42 (dk_at dksX4_rescue_1 9 rfl rfl)
theorem dX4_rescue_34 : decode cX4_rescue 34 = .ok (.getfield 28, 3) := dk_180 0 28 (dk_at dksX4_rescue_1 10 rfl rfl)
theorem dX4_rescue_37 : decode cX4_rescue 37 = .ok (.iload_n 1, 1) := dk_27 (dk_at dksX4_rescue_1 13 rfl rfl)
theorem dX4_rescue_38 : decode cX4_rescue 38 = .ok (.iload_n 2, 1) := dk_28 (dk_at dksX4_rescue_1 14 rfl rfl)
theorem dX4_rescue_39 : decode cX4_rescue 39 = .ok (.iastore, 1) := dk_79 (dk_at dksX4_rescue_1 15 rfl rfl)
theorem dX4_rescue_40 : decode cX4_rescue 40 = .ok (.aload_n 0, 1) := dk_42 (dk_at dksX4_rescue_1 16 rfl rfl)
theorem dX4_rescue_41 : decode cX4_rescue 41 = .ok (.invokevirtual 255, 3) := dk_182 0 255 (dk_at dksX4_rescue_1 17 rfl rfl)
theorem dX4_rescue_44 : decode cX4_rescue 44 = .ok (.aload_n 0, 1) := dk_42 (dk_at dksX4_rescue_1 20 rfl rfl)
theorem dX4_rescue_45 : decode cX4_rescue 45 = .ok (.iload_n 3, 1) := dk_29 (dk_at dksX4_rescue_1 21 rfl rfl)
theorem dX4_rescue_46 : decode cX4_rescue 46 = .ok (.invokevirtual 258, 3) := dk_182 1 2 (dk_at dksX4_rescue_2 0 rfl rfl)
theorem dX4_rescue_49 : decode cX4_rescue 49 = .ok (.ireturn, 1) := dk_172 (dk_at dksX4_rescue_2 3 rfl rfl)
def dkwX4_helper_2 : List UInt8 := [180, 1, 59, 172]
abbrev dktX4_helper_2 : List UInt8 := dkwX4_helper_2 ++ []
def dkwX4_helper_1 : List UInt8 := [182, 0, 252, 42, 27, 182, 1, 62, 62, 29, 16, 254, 159, 0, 7, 28, 154, 0, 7, 29, 167, 0, 7, 42]
abbrev dktX4_helper_1 : List UInt8 := dkwX4_helper_1 ++ dktX4_helper_2
def dkwX4_helper_0 : List UInt8 := [27, 3, 17, 39, 15, 184, 0, 68, 153, 0, 12, 28, 3, 4, 184, 0, 68, 154, 0, 5, 2, 172, 42]
abbrev dktX4_helper_0 : List UInt8 := dkwX4_helper_0 ++ dktX4_helper_1
theorem dksX4_helper_0 : cX4_helper.data.toList.drop 0 = dktX4_helper_0 := by decide +kernel
theorem dksX4_helper_1 : cX4_helper.data.toList.drop 23 = dktX4_helper_1 := dk_seg dksX4_helper_0 23 rfl rfl
theorem dksX4_helper_2 : cX4_helper.data.toList.drop 47 = dktX4_helper_2 := dk_seg dksX4_helper_1 24 rfl rfl
theorem dX4_helper_0 : decode cX4_helper 0 = .ok (.iload_n 1, 1) := dk_27 (dk_at dksX4_helper_0 0 rfl rfl)
theorem dX4_helper_1 : decode cX4_helper 1 = .ok (.iconst 0, 1) := dk_3 (dk_at dksX4_helper_0 1 rfl rfl)
theorem dX4_helper_2 : decode cX4_helper 2 = .ok (.sipush 9999, 3) := dk_17 39 15 (dk_at dksX4_helper_0 2 rfl rfl)
theorem dX4_helper_5 : decode cX4_helper 5 = .ok (.invokestatic 68, 3) := dk_184 0 68 (dk_at dksX4_helper_0 5 rfl rfl)
theorem dX4_helper_8 : decode cX4_helper 8 = .ok (.ifCond .eq 12, 3) := dk_153 0 12 (dk_at dksX4_helper_0 8 rfl rfl)
theorem dX4_helper_11 : decode cX4_helper 11 = .ok (.iload_n 2, 1) := dk_28 (dk_at dksX4_helper_0 11 rfl rfl)
theorem dX4_helper_12 : decode cX4_helper 12 = .ok (.iconst 0, 1) := dk_3 (dk_at dksX4_helper_0 12 rfl rfl)
theorem dX4_helper_13 : decode cX4_helper 13 = .ok (.iconst 1, 1) := dk_4 (dk_at dksX4_helper_0 13 rfl rfl)
theorem dX4_helper_14 : decode cX4_helper 14 = .ok (.invokestatic 68, 3) := dk_184 0 68 (dk_at dksX4_helper_0 14 rfl rfl)
theorem dX4_helper_17 : decode cX4_helper 17 = .ok (.ifCond .ne 5, 3) := dk_154 0 5 (dk_at dksX4_helper_0 17 rfl rfl)
theorem dX4_helper_20 : decode cX4_helper 20 = .ok (.iconst (-1), 1) := dk_2 (dk_at dksX4_helper_0 20 rfl rfl)
theorem dX4_helper_21 : decode cX4_helper 21 = .ok (.ireturn, 1) := dk_172 (dk_at dksX4_helper_0 21 rfl rfl)
theorem dX4_helper_22 : decode cX4_helper 22 = .ok (.aload_n 0, 1) := dk_42 (dk_at dksX4_helper_0 22 rfl rfl)
theorem dX4_helper_23 : decode cX4_helper 23 = .ok (.invokevirtual 252, 3) := dk_182 0 252 (dk_at dksX4_helper_1 0 rfl rfl)
theorem dX4_helper_26 : decode cX4_helper 26 = .ok (.aload_n 0, 1) := dk_42 (dk_at dksX4_helper_1 3 rfl rfl)
theorem dX4_helper_27 : decode cX4_helper 27 = .ok (.iload_n 1, 1) := dk_27 (dk_at dksX4_helper_1 4 rfl rfl)
theorem dX4_helper_28 : decode cX4_helper 28 = .ok (.invokevirtual 318, 3) := dk_182 1 62 (dk_at dksX4_helper_1 5 rfl rfl)
theorem dX4_helper_31 : decode cX4_helper 31 = .ok (.istore_n 3, 1) := dk_62 (dk_at dksX4_helper_1 8 rfl rfl)
theorem dX4_helper_32 : decode cX4_helper 32 = .ok (.iload_n 3, 1) := dk_29 (dk_at dksX4_helper_1 9 rfl rfl)
theorem dX4_helper_33 : decode cX4_helper 33 = .ok (.bipush (-2), 2) := dk_16 254 (dk_at dksX4_helper_1 10 rfl rfl)
theorem dX4_helper_35 : decode cX4_helper 35 = .ok (.if_icmp .eq 7, 3) := dk_159 0 7 (dk_at dksX4_helper_1 12 rfl rfl)
theorem dX4_helper_38 : decode cX4_helper 38 = .ok (.iload_n 2, 1) := dk_28 (dk_at dksX4_helper_1 15 rfl rfl)
theorem dX4_helper_39 : decode cX4_helper 39 = .ok (.ifCond .ne 7, 3) := dk_154 0 7 (dk_at dksX4_helper_1 16 rfl rfl)
theorem dX4_helper_42 : decode cX4_helper 42 = .ok (.iload_n 3, 1) := dk_29 (dk_at dksX4_helper_1 19 rfl rfl)
theorem dX4_helper_43 : decode cX4_helper 43 = .ok (.goto 7, 3) := dk_167 0 7 (dk_at dksX4_helper_1 20 rfl rfl)
theorem dX4_helper_46 : decode cX4_helper 46 = .ok (.aload_n 0, 1) := dk_42 (dk_at dksX4_helper_1 23 rfl rfl)
theorem dX4_helper_47 : decode cX4_helper 47 = .ok (.getfield 315, 3) := dk_180 1 59 (dk_at dksX4_helper_2 0 rfl rfl)
theorem dX4_helper_50 : decode cX4_helper 50 = .ok (.ireturn, 1) := dk_172 (dk_at dksX4_helper_2 3 rfl rfl)
def dkwX4_helped_3 : List UInt8 := [172]
abbrev dktX4_helped_3 : List UInt8 := dkwX4_helped_3 ++ []
def dkwX4_helped_2 : List UInt8 := [21, 4, 42, 180, 1, 59, 162, 0, 11, 29, 61, 42, 21, 4, 181, 1, 59, 132, 3, 1, 167, 255, 194, 28]
abbrev dktX4_helped_2 : List UInt8 := dkwX4_helped_2 ++ dktX4_helped_3
def dkwX4_helped_1 : List UInt8 := [79, 42, 182, 1, 56, 54, 4, 42, 180, 0, 28, 29, 92, 46, 27, 100, 79, 28, 16, 254, 159, 0, 12]
abbrev dktX4_helped_1 : List UInt8 := dkwX4_helped_1 ++ dktX4_helped_2
def dkwX4_helped_0 : List UInt8 := [16, 254, 61, 3, 62, 29, 42, 180, 0, 7, 4, 46, 162, 0, 58, 42, 180, 0, 28, 29, 92, 46, 27, 96]
abbrev dktX4_helped_0 : List UInt8 := dkwX4_helped_0 ++ dktX4_helped_1
theorem dksX4_helped_0 : cX4_helped.data.toList.drop 0 = dktX4_helped_0 := by decide +kernel
theorem dksX4_helped_1 : cX4_helped.data.toList.drop 24 = dktX4_helped_1 := dk_seg dksX4_helped_0 24 rfl rfl
theorem dksX4_helped_2 : cX4_helped.data.toList.drop 47 = dktX4_helped_2 := dk_seg dksX4_helped_1 23 rfl rfl
theorem dksX4_helped_3 : cX4_helped.data.toList.drop 71 = dktX4_helped_3 := dk_seg dksX4_helped_2 24 rfl rfl
theorem dX4_helped_0 : decode cX4_helped 0 = .ok (.bipush (-2), 2) := dk_16 254 (dk_at dksX4_helped_0 0 rfl rfl)
theorem dX4_helped_2 : decode cX4_helped 2 = .ok (.istore_n 2, 1) := dk_61 (dk_at dksX4_helped_0 2 rfl rfl)
theorem dX4_helped_3 : decode cX4_helped 3 = .ok (.iconst 0, 1) := dk_3 (dk_at dksX4_helped_0 3 rfl rfl)
theorem dX4_helped_4 : decode cX4_helped 4 = .ok (.istore_n 3, 1) := dk_62 (dk_at dksX4_helped_0 4 rfl rfl)
theorem dX4_helped_5 : decode cX4_helped 5 = .ok (.iload_n 3, 1) := dk_29 (dk_at dksX4_helped_0 5 rfl rfl)
theorem dX4_helped_6 : decode cX4_helped 6 = .ok (.aload_n 0, 1) := dk_42 (dk_at dksX4_helped_0 6 rfl rfl)
theorem dX4_helped_7 : decode cX4_helped 7 = .ok (.getfield 7, 3) := dk_180 0 7 (dk_at dksX4_helped_0 7 rfl rfl)
theorem dX4_helped_10 : decode cX4_helped 10 = .ok (.iconst 1, 1) := dk_4 (dk_at dksX4_helped_0 10 rfl rfl)
theorem dX4_helped_11 : decode cX4_helped 11 = .ok (.iaload, 1) := dk_46 (dk_at dksX4_helped_0 11 rfl rfl)
theorem dX4_helped_12 : decode cX4_helped 12 = .ok (.if_icmp .ge 58, 3) := dk_162 0 58 (dk_at dksX4_helped_0 12 rfl rfl)
theorem dX4_helped_15 : decode cX4_helped 15 = .ok (.aload_n 0, 1) := dk_42 (dk_at dksX4_helped_0 15 rfl rfl)
theorem dX4_helped_16 : decode cX4_helped 16 = .ok (.getfield 28, 3) := dk_180 0 28 (dk_at dksX4_helped_0 16 rfl rfl)
theorem dX4_helped_19 : decode cX4_helped 19 = .ok (.iload_n 3, 1) := dk_29 (dk_at dksX4_helped_0 19 rfl rfl)
theorem dX4_helped_20 : decode cX4_helped 20 = .ok (.dup2, 1) := dk_92 (dk_at dksX4_helped_0 20 rfl rfl)
theorem dX4_helped_21 : decode cX4_helped 21 = .ok (.iaload, 1) := dk_46 (dk_at dksX4_helped_0 21 rfl rfl)
theorem dX4_helped_22 : decode cX4_helped 22 = .ok (.iload_n 1, 1) := dk_27 (dk_at dksX4_helped_0 22 rfl rfl)
theorem dX4_helped_23 : decode cX4_helped 23 = .ok (.iadd, 1) := dk_96 (dk_at dksX4_helped_0 23 rfl rfl)
theorem dX4_helped_24 : decode cX4_helped 24 = .ok (.iastore, 1) := dk_79 (dk_at dksX4_helped_1 0 rfl rfl)
theorem dX4_helped_25 : decode cX4_helped 25 = .ok (.aload_n 0, 1) := dk_42 (dk_at dksX4_helped_1 1 rfl rfl)
theorem dX4_helped_26 : decode cX4_helped 26 = .ok (.invokevirtual 312, 3) := dk_182 1 56 (dk_at dksX4_helped_1 2 rfl rfl)
theorem dX4_helped_29 : decode cX4_helped 29 = .ok (.istore 4, 2) := dk_54 4 (dk_at dksX4_helped_1 5 rfl rfl)
theorem dX4_helped_31 : decode cX4_helped 31 = .ok (.aload_n 0, 1) := dk_42 (dk_at dksX4_helped_1 7 rfl rfl)
theorem dX4_helped_32 : decode cX4_helped 32 = .ok (.getfield 28, 3) := dk_180 0 28 (dk_at dksX4_helped_1 8 rfl rfl)
theorem dX4_helped_35 : decode cX4_helped 35 = .ok (.iload_n 3, 1) := dk_29 (dk_at dksX4_helped_1 11 rfl rfl)
theorem dX4_helped_36 : decode cX4_helped 36 = .ok (.dup2, 1) := dk_92 (dk_at dksX4_helped_1 12 rfl rfl)
theorem dX4_helped_37 : decode cX4_helped 37 = .ok (.iaload, 1) := dk_46 (dk_at dksX4_helped_1 13 rfl rfl)
theorem dX4_helped_38 : decode cX4_helped 38 = .ok (.iload_n 1, 1) := dk_27 (dk_at dksX4_helped_1 14 rfl rfl)
theorem dX4_helped_39 : decode cX4_helped 39 = .ok (.isub, 1) := dk_100 (dk_at dksX4_helped_1 15 rfl rfl)
theorem dX4_helped_40 : decode cX4_helped 40 = .ok (.iastore, 1) := dk_79 (dk_at dksX4_helped_1 16 rfl rfl)
theorem dX4_helped_41 : decode cX4_helped 41 = .ok (.iload_n 2, 1) := dk_28 (dk_at dksX4_helped_1 17 rfl rfl)
theorem dX4_helped_42 : decode cX4_helped 42 = .ok (.bipush (-2), 2) := dk_16 254 (dk_at dksX4_helped_1 18 rfl rfl)
theorem dX4_helped_44 : decode cX4_helped 44 = .ok (.if_icmp .eq 12, 3) := dk_159 0 12 (dk_at dksX4_helped_1 20 rfl rfl)
theorem dX4_helped_47 : decode cX4_helped 47 = .ok (.iload 4, 2) := dk_21 4 (dk_at dksX4_helped_2 0 rfl rfl)
theorem dX4_helped_49 : decode cX4_helped 49 = .ok (.aload_n 0, 1) := dk_42 (dk_at dksX4_helped_2 2 rfl rfl)
theorem dX4_helped_50 : decode cX4_helped 50 = .ok (.getfield 315, 3) := dk_180 1 59 (dk_at dksX4_helped_2 3 rfl rfl)
theorem dX4_helped_53 : decode cX4_helped 53 = .ok (.if_icmp .ge 11, 3) := dk_162 0 11 (dk_at dksX4_helped_2 6 rfl rfl)
theorem dX4_helped_56 : decode cX4_helped 56 = .ok (.iload_n 3, 1) := dk_29 (dk_at dksX4_helped_2 9 rfl rfl)
theorem dX4_helped_57 : decode cX4_helped 57 = .ok (.istore_n 2, 1) := dk_61 (dk_at dksX4_helped_2 10 rfl rfl)
theorem dX4_helped_58 : decode cX4_helped 58 = .ok (.aload_n 0, 1) := dk_42 (dk_at dksX4_helped_2 11 rfl rfl)
theorem dX4_helped_59 : decode cX4_helped 59 = .ok (.iload 4, 2) := dk_21 4 (dk_at dksX4_helped_2 12 rfl rfl)
theorem dX4_helped_61 : decode cX4_helped 61 = .ok (.putfield 315, 3) := dk_181 1 59 (dk_at dksX4_helped_2 14 rfl rfl)
theorem dX4_helped_64 : decode cX4_helped 64 = .ok (.iinc 3 1, 3) := dk_132 3 1 (dk_at dksX4_helped_2 17 rfl rfl)
theorem dX4_helped_67 : decode cX4_helped 67 = .ok (.goto (-62), 3) := dk_167 255 194 (dk_at dksX4_helped_2 20 rfl rfl)
theorem dX4_helped_70 : decode cX4_helped 70 = .ok (.iload_n 2, 1) := dk_28 (dk_at dksX4_helped_2 23 rfl rfl)
theorem dX4_helped_71 : decode cX4_helped 71 = .ok (.ireturn, 1) := dk_172 (dk_at dksX4_helped_3 0 rfl rfl)
def dkwX4_lostNow_0 : List UInt8 := [42, 182, 0, 255, 42, 182, 0, 227, 172]
abbrev dktX4_lostNow_0 : List UInt8 := dkwX4_lostNow_0 ++ []
theorem dksX4_lostNow_0 : cX4_lostNow.data.toList.drop 0 = dktX4_lostNow_0 := by decide +kernel
theorem dX4_lostNow_0 : decode cX4_lostNow 0 = .ok (.aload_n 0, 1) := dk_42 (dk_at dksX4_lostNow_0 0 rfl rfl)
theorem dX4_lostNow_1 : decode cX4_lostNow 1 = .ok (.invokevirtual 255, 3) := dk_182 0 255 (dk_at dksX4_lostNow_0 1 rfl rfl)
theorem dX4_lostNow_4 : decode cX4_lostNow 4 = .ok (.aload_n 0, 1) := dk_42 (dk_at dksX4_lostNow_0 4 rfl rfl)
theorem dX4_lostNow_5 : decode cX4_lostNow 5 = .ok (.invokevirtual 227, 3) := dk_182 0 227 (dk_at dksX4_lostNow_0 5 rfl rfl)
theorem dX4_lostNow_8 : decode cX4_lostNow 8 = .ok (.ireturn, 1) := dk_172 (dk_at dksX4_lostNow_0 8 rfl rfl)
def dkwX4_coinsFor_3 : List UInt8 := [21, 4, 4, 96, 61, 167, 255, 218, 28, 172]
abbrev dktX4_coinsFor_3 : List UInt8 := dkwX4_coinsFor_3 ++ []
def dkwX4_coinsFor_2 : List UInt8 := [108, 54, 4, 42, 180, 0, 28, 27, 21, 4, 79, 42, 182, 1, 65, 153, 0, 9, 21, 4, 62, 167, 0, 8]
abbrev dktX4_coinsFor_2 : List UInt8 := dkwX4_coinsFor_2 ++ dktX4_coinsFor_3
def dkwX4_coinsFor_1 : List UInt8 := [182, 1, 65, 154, 0, 6, 16, 254, 172, 3, 61, 17, 39, 15, 62, 28, 29, 162, 0, 39, 28, 29, 96, 5]
abbrev dktX4_coinsFor_1 : List UInt8 := dkwX4_coinsFor_1 ++ dktX4_coinsFor_2
def dkwX4_coinsFor_0 : List UInt8 := [42, 27, 182, 0, 237, 154, 0, 5, 2, 172, 42, 182, 0, 252, 42, 180, 0, 28, 27, 17, 39, 15, 79, 42]
abbrev dktX4_coinsFor_0 : List UInt8 := dkwX4_coinsFor_0 ++ dktX4_coinsFor_1
theorem dksX4_coinsFor_0 : cX4_coinsFor.data.toList.drop 0 = dktX4_coinsFor_0 := by decide +kernel
theorem dksX4_coinsFor_1 : cX4_coinsFor.data.toList.drop 24 = dktX4_coinsFor_1 := dk_seg dksX4_coinsFor_0 24 rfl rfl
theorem dksX4_coinsFor_2 : cX4_coinsFor.data.toList.drop 48 = dktX4_coinsFor_2 := dk_seg dksX4_coinsFor_1 24 rfl rfl
theorem dksX4_coinsFor_3 : cX4_coinsFor.data.toList.drop 72 = dktX4_coinsFor_3 := dk_seg dksX4_coinsFor_2 24 rfl rfl
theorem dX4_coinsFor_0 : decode cX4_coinsFor 0 = .ok (.aload_n 0, 1) := dk_42 (dk_at dksX4_coinsFor_0 0 rfl rfl)
theorem dX4_coinsFor_1 : decode cX4_coinsFor 1 = .ok (.iload_n 1, 1) := dk_27 (dk_at dksX4_coinsFor_0 1 rfl rfl)
theorem dX4_coinsFor_2 : decode cX4_coinsFor 2 = .ok (.invokevirtual 237, 3) := dk_182 0 237 (dk_at dksX4_coinsFor_0 2 rfl rfl)
theorem dX4_coinsFor_5 : decode cX4_coinsFor 5 = .ok (.ifCond .ne 5, 3) := dk_154 0 5 (dk_at dksX4_coinsFor_0 5 rfl rfl)
theorem dX4_coinsFor_8 : decode cX4_coinsFor 8 = .ok (.iconst (-1), 1) := dk_2 (dk_at dksX4_coinsFor_0 8 rfl rfl)
theorem dX4_coinsFor_9 : decode cX4_coinsFor 9 = .ok (.ireturn, 1) := dk_172 (dk_at dksX4_coinsFor_0 9 rfl rfl)
theorem dX4_coinsFor_10 : decode cX4_coinsFor 10 = .ok (.aload_n 0, 1) := dk_42 (dk_at dksX4_coinsFor_0 10 rfl rfl)
theorem dX4_coinsFor_11 : decode cX4_coinsFor 11 = .ok (.invokevirtual 252, 3) := dk_182 0 252 (dk_at dksX4_coinsFor_0 11 rfl rfl)
theorem dX4_coinsFor_14 : decode cX4_coinsFor 14 = .ok (.aload_n 0, 1) := dk_42 (dk_at dksX4_coinsFor_0 14 rfl rfl)
theorem dX4_coinsFor_15 : decode cX4_coinsFor 15 = .ok (.getfield 28, 3) := dk_180 0 28 (dk_at dksX4_coinsFor_0 15 rfl rfl)
theorem dX4_coinsFor_18 : decode cX4_coinsFor 18 = .ok (.iload_n 1, 1) := dk_27 (dk_at dksX4_coinsFor_0 18 rfl rfl)
theorem dX4_coinsFor_19 : decode cX4_coinsFor 19 = .ok (.sipush 9999, 3) := dk_17 39 15 (dk_at dksX4_coinsFor_0 19 rfl rfl)
theorem dX4_coinsFor_22 : decode cX4_coinsFor 22 = .ok (.iastore, 1) := dk_79 (dk_at dksX4_coinsFor_0 22 rfl rfl)
theorem dX4_coinsFor_23 : decode cX4_coinsFor 23 = .ok (.aload_n 0, 1) := dk_42 (dk_at dksX4_coinsFor_0 23 rfl rfl)
theorem dX4_coinsFor_24 : decode cX4_coinsFor 24 = .ok (.invokevirtual 321, 3) := dk_182 1 65 (dk_at dksX4_coinsFor_1 0 rfl rfl)
theorem dX4_coinsFor_27 : decode cX4_coinsFor 27 = .ok (.ifCond .ne 6, 3) := dk_154 0 6 (dk_at dksX4_coinsFor_1 3 rfl rfl)
theorem dX4_coinsFor_30 : decode cX4_coinsFor 30 = .ok (.bipush (-2), 2) := dk_16 254 (dk_at dksX4_coinsFor_1 6 rfl rfl)
theorem dX4_coinsFor_32 : decode cX4_coinsFor 32 = .ok (.ireturn, 1) := dk_172 (dk_at dksX4_coinsFor_1 8 rfl rfl)
theorem dX4_coinsFor_33 : decode cX4_coinsFor 33 = .ok (.iconst 0, 1) := dk_3 (dk_at dksX4_coinsFor_1 9 rfl rfl)
theorem dX4_coinsFor_34 : decode cX4_coinsFor 34 = .ok (.istore_n 2, 1) := dk_61 (dk_at dksX4_coinsFor_1 10 rfl rfl)
theorem dX4_coinsFor_35 : decode cX4_coinsFor 35 = .ok (.sipush 9999, 3) := dk_17 39 15 (dk_at dksX4_coinsFor_1 11 rfl rfl)
theorem dX4_coinsFor_38 : decode cX4_coinsFor 38 = .ok (.istore_n 3, 1) := dk_62 (dk_at dksX4_coinsFor_1 14 rfl rfl)
theorem dX4_coinsFor_39 : decode cX4_coinsFor 39 = .ok (.iload_n 2, 1) := dk_28 (dk_at dksX4_coinsFor_1 15 rfl rfl)
theorem dX4_coinsFor_40 : decode cX4_coinsFor 40 = .ok (.iload_n 3, 1) := dk_29 (dk_at dksX4_coinsFor_1 16 rfl rfl)
theorem dX4_coinsFor_41 : decode cX4_coinsFor 41 = .ok (.if_icmp .ge 39, 3) := dk_162 0 39 (dk_at dksX4_coinsFor_1 17 rfl rfl)
theorem dX4_coinsFor_44 : decode cX4_coinsFor 44 = .ok (.iload_n 2, 1) := dk_28 (dk_at dksX4_coinsFor_1 20 rfl rfl)
theorem dX4_coinsFor_45 : decode cX4_coinsFor 45 = .ok (.iload_n 3, 1) := dk_29 (dk_at dksX4_coinsFor_1 21 rfl rfl)
theorem dX4_coinsFor_46 : decode cX4_coinsFor 46 = .ok (.iadd, 1) := dk_96 (dk_at dksX4_coinsFor_1 22 rfl rfl)
theorem dX4_coinsFor_47 : decode cX4_coinsFor 47 = .ok (.iconst 2, 1) := dk_5 (dk_at dksX4_coinsFor_1 23 rfl rfl)
theorem dX4_coinsFor_48 : decode cX4_coinsFor 48 = .ok (.idiv, 1) := dk_108 (dk_at dksX4_coinsFor_2 0 rfl rfl)
theorem dX4_coinsFor_49 : decode cX4_coinsFor 49 = .ok (.istore 4, 2) := dk_54 4 (dk_at dksX4_coinsFor_2 1 rfl rfl)
theorem dX4_coinsFor_51 : decode cX4_coinsFor 51 = .ok (.aload_n 0, 1) := dk_42 (dk_at dksX4_coinsFor_2 3 rfl rfl)
theorem dX4_coinsFor_52 : decode cX4_coinsFor 52 = .ok (.getfield 28, 3) := dk_180 0 28 (dk_at dksX4_coinsFor_2 4 rfl rfl)
theorem dX4_coinsFor_55 : decode cX4_coinsFor 55 = .ok (.iload_n 1, 1) := dk_27 (dk_at dksX4_coinsFor_2 7 rfl rfl)
theorem dX4_coinsFor_56 : decode cX4_coinsFor 56 = .ok (.iload 4, 2) := dk_21 4 (dk_at dksX4_coinsFor_2 8 rfl rfl)
theorem dX4_coinsFor_58 : decode cX4_coinsFor 58 = .ok (.iastore, 1) := dk_79 (dk_at dksX4_coinsFor_2 10 rfl rfl)
theorem dX4_coinsFor_59 : decode cX4_coinsFor 59 = .ok (.aload_n 0, 1) := dk_42 (dk_at dksX4_coinsFor_2 11 rfl rfl)
theorem dX4_coinsFor_60 : decode cX4_coinsFor 60 = .ok (.invokevirtual 321, 3) := dk_182 1 65 (dk_at dksX4_coinsFor_2 12 rfl rfl)
theorem dX4_coinsFor_63 : decode cX4_coinsFor 63 = .ok (.ifCond .eq 9, 3) := dk_153 0 9 (dk_at dksX4_coinsFor_2 15 rfl rfl)
theorem dX4_coinsFor_66 : decode cX4_coinsFor 66 = .ok (.iload 4, 2) := dk_21 4 (dk_at dksX4_coinsFor_2 18 rfl rfl)
theorem dX4_coinsFor_68 : decode cX4_coinsFor 68 = .ok (.istore_n 3, 1) := dk_62 (dk_at dksX4_coinsFor_2 20 rfl rfl)
theorem dX4_coinsFor_69 : decode cX4_coinsFor 69 = .ok (.goto 8, 3) := dk_167 0 8 (dk_at dksX4_coinsFor_2 21 rfl rfl)
theorem dX4_coinsFor_72 : decode cX4_coinsFor 72 = .ok (.iload 4, 2) := dk_21 4 (dk_at dksX4_coinsFor_3 0 rfl rfl)
theorem dX4_coinsFor_74 : decode cX4_coinsFor 74 = .ok (.iconst 1, 1) := dk_4 (dk_at dksX4_coinsFor_3 2 rfl rfl)
theorem dX4_coinsFor_75 : decode cX4_coinsFor 75 = .ok (.iadd, 1) := dk_96 (dk_at dksX4_coinsFor_3 3 rfl rfl)
theorem dX4_coinsFor_76 : decode cX4_coinsFor 76 = .ok (.istore_n 2, 1) := dk_61 (dk_at dksX4_coinsFor_3 4 rfl rfl)
theorem dX4_coinsFor_77 : decode cX4_coinsFor 77 = .ok (.goto (-38), 3) := dk_167 255 218 (dk_at dksX4_coinsFor_3 5 rfl rfl)
theorem dX4_coinsFor_80 : decode cX4_coinsFor 80 = .ok (.iload_n 2, 1) := dk_28 (dk_at dksX4_coinsFor_3 8 rfl rfl)
theorem dX4_coinsFor_81 : decode cX4_coinsFor 81 = .ok (.ireturn, 1) := dk_172 (dk_at dksX4_coinsFor_3 9 rfl rfl)
def dkwX4_noneFalls_0 : List UInt8 := [42, 182, 0, 255, 42, 180, 0, 184, 154, 0, 7, 4, 167, 0, 4, 3, 172]
abbrev dktX4_noneFalls_0 : List UInt8 := dkwX4_noneFalls_0 ++ []
theorem dksX4_noneFalls_0 : cX4_noneFalls.data.toList.drop 0 = dktX4_noneFalls_0 := by decide +kernel
theorem dX4_noneFalls_0 : decode cX4_noneFalls 0 = .ok (.aload_n 0, 1) := dk_42 (dk_at dksX4_noneFalls_0 0 rfl rfl)
theorem dX4_noneFalls_1 : decode cX4_noneFalls 1 = .ok (.invokevirtual 255, 3) := dk_182 0 255 (dk_at dksX4_noneFalls_0 1 rfl rfl)
theorem dX4_noneFalls_4 : decode cX4_noneFalls 4 = .ok (.aload_n 0, 1) := dk_42 (dk_at dksX4_noneFalls_0 4 rfl rfl)
theorem dX4_noneFalls_5 : decode cX4_noneFalls 5 = .ok (.getfield 184, 3) := dk_180 0 184 (dk_at dksX4_noneFalls_0 5 rfl rfl)
theorem dX4_noneFalls_8 : decode cX4_noneFalls 8 = .ok (.ifCond .ne 7, 3) := dk_154 0 7 (dk_at dksX4_noneFalls_0 8 rfl rfl)
theorem dX4_noneFalls_11 : decode cX4_noneFalls 11 = .ok (.iconst 1, 1) := dk_4 (dk_at dksX4_noneFalls_0 11 rfl rfl)
theorem dX4_noneFalls_12 : decode cX4_noneFalls 12 = .ok (.goto 4, 3) := dk_167 0 4 (dk_at dksX4_noneFalls_0 12 rfl rfl)
theorem dX4_noneFalls_15 : decode cX4_noneFalls 15 = .ok (.iconst 0, 1) := dk_3 (dk_at dksX4_noneFalls_0 15 rfl rfl)
theorem dX4_noneFalls_16 : decode cX4_noneFalls 16 = .ok (.ireturn, 1) := dk_172 (dk_at dksX4_noneFalls_0 16 rfl rfl)
def dkwX4_aid_5 : List UInt8 := [167, 255, 218, 29, 2, 160, 0, 10, 42, 182, 1, 56, 167, 0, 9, 42, 180, 0, 56, 29, 46, 172]
abbrev dktX4_aid_5 : List UInt8 := dkwX4_aid_5 ++ []
def dkwX4_aid_4 : List UInt8 := [180, 0, 28, 21, 5, 92, 46, 28, 96, 79, 42, 180, 0, 56, 21, 5, 92, 46, 4, 96, 79, 132, 4, 1]
abbrev dktX4_aid_4 : List UInt8 := dkwX4_aid_4 ++ dktX4_aid_5
def dkwX4_aid_3 : List UInt8 := [132, 4, 1, 167, 255, 238, 3, 54, 4, 21, 4, 27, 162, 0, 38, 42, 28, 182, 1, 62, 54, 5, 42]
abbrev dktX4_aid_3 : List UInt8 := dkwX4_aid_3 ++ dktX4_aid_4
def dkwX4_aid_2 : List UInt8 := [172, 42, 182, 0, 252, 3, 54, 4, 21, 4, 16, 6, 162, 0, 17, 42, 180, 0, 56, 21, 4, 3, 79]
abbrev dktX4_aid_2 : List UInt8 := dkwX4_aid_2 ++ dktX4_aid_3
def dkwX4_aid_1 : List UInt8 := [159, 0, 13, 42, 29, 182, 0, 237, 154, 0, 5, 2, 172, 42, 180, 0, 7, 4, 46, 154, 0, 6, 16, 254]
abbrev dktX4_aid_1 : List UInt8 := dkwX4_aid_1 ++ dktX4_aid_2
def dkwX4_aid_0 : List UInt8 := [27, 3, 16, 6, 184, 0, 68, 153, 0, 27, 28, 4, 17, 3, 231, 184, 0, 68, 153, 0, 16, 29, 2]
abbrev dktX4_aid_0 : List UInt8 := dkwX4_aid_0 ++ dktX4_aid_1
theorem dksX4_aid_0 : cX4_aid.data.toList.drop 0 = dktX4_aid_0 := by decide +kernel
theorem dksX4_aid_1 : cX4_aid.data.toList.drop 23 = dktX4_aid_1 := dk_seg dksX4_aid_0 23 rfl rfl
theorem dksX4_aid_2 : cX4_aid.data.toList.drop 47 = dktX4_aid_2 := dk_seg dksX4_aid_1 24 rfl rfl
theorem dksX4_aid_3 : cX4_aid.data.toList.drop 70 = dktX4_aid_3 := dk_seg dksX4_aid_2 23 rfl rfl
theorem dksX4_aid_4 : cX4_aid.data.toList.drop 93 = dktX4_aid_4 := dk_seg dksX4_aid_3 23 rfl rfl
theorem dksX4_aid_5 : cX4_aid.data.toList.drop 117 = dktX4_aid_5 := dk_seg dksX4_aid_4 24 rfl rfl
theorem dX4_aid_0 : decode cX4_aid 0 = .ok (.iload_n 1, 1) := dk_27 (dk_at dksX4_aid_0 0 rfl rfl)
theorem dX4_aid_1 : decode cX4_aid 1 = .ok (.iconst 0, 1) := dk_3 (dk_at dksX4_aid_0 1 rfl rfl)
theorem dX4_aid_2 : decode cX4_aid 2 = .ok (.bipush 6, 2) := dk_16 6 (dk_at dksX4_aid_0 2 rfl rfl)
theorem dX4_aid_4 : decode cX4_aid 4 = .ok (.invokestatic 68, 3) := dk_184 0 68 (dk_at dksX4_aid_0 4 rfl rfl)
theorem dX4_aid_7 : decode cX4_aid 7 = .ok (.ifCond .eq 27, 3) := dk_153 0 27 (dk_at dksX4_aid_0 7 rfl rfl)
theorem dX4_aid_10 : decode cX4_aid 10 = .ok (.iload_n 2, 1) := dk_28 (dk_at dksX4_aid_0 10 rfl rfl)
theorem dX4_aid_11 : decode cX4_aid 11 = .ok (.iconst 1, 1) := dk_4 (dk_at dksX4_aid_0 11 rfl rfl)
theorem dX4_aid_12 : decode cX4_aid 12 = .ok (.sipush 999, 3) := dk_17 3 231 (dk_at dksX4_aid_0 12 rfl rfl)
theorem dX4_aid_15 : decode cX4_aid 15 = .ok (.invokestatic 68, 3) := dk_184 0 68 (dk_at dksX4_aid_0 15 rfl rfl)
theorem dX4_aid_18 : decode cX4_aid 18 = .ok (.ifCond .eq 16, 3) := dk_153 0 16 (dk_at dksX4_aid_0 18 rfl rfl)
theorem dX4_aid_21 : decode cX4_aid 21 = .ok (.iload_n 3, 1) := dk_29 (dk_at dksX4_aid_0 21 rfl rfl)
theorem dX4_aid_22 : decode cX4_aid 22 = .ok (.iconst (-1), 1) := dk_2 (dk_at dksX4_aid_0 22 rfl rfl)
theorem dX4_aid_23 : decode cX4_aid 23 = .ok (.if_icmp .eq 13, 3) := dk_159 0 13 (dk_at dksX4_aid_1 0 rfl rfl)
theorem dX4_aid_26 : decode cX4_aid 26 = .ok (.aload_n 0, 1) := dk_42 (dk_at dksX4_aid_1 3 rfl rfl)
theorem dX4_aid_27 : decode cX4_aid 27 = .ok (.iload_n 3, 1) := dk_29 (dk_at dksX4_aid_1 4 rfl rfl)
theorem dX4_aid_28 : decode cX4_aid 28 = .ok (.invokevirtual 237, 3) := dk_182 0 237 (dk_at dksX4_aid_1 5 rfl rfl)
theorem dX4_aid_31 : decode cX4_aid 31 = .ok (.ifCond .ne 5, 3) := dk_154 0 5 (dk_at dksX4_aid_1 8 rfl rfl)
theorem dX4_aid_34 : decode cX4_aid 34 = .ok (.iconst (-1), 1) := dk_2 (dk_at dksX4_aid_1 11 rfl rfl)
theorem dX4_aid_35 : decode cX4_aid 35 = .ok (.ireturn, 1) := dk_172 (dk_at dksX4_aid_1 12 rfl rfl)
theorem dX4_aid_36 : decode cX4_aid 36 = .ok (.aload_n 0, 1) := dk_42 (dk_at dksX4_aid_1 13 rfl rfl)
theorem dX4_aid_37 : decode cX4_aid 37 = .ok (.getfield 7, 3) := dk_180 0 7 (dk_at dksX4_aid_1 14 rfl rfl)
theorem dX4_aid_40 : decode cX4_aid 40 = .ok (.iconst 1, 1) := dk_4 (dk_at dksX4_aid_1 17 rfl rfl)
theorem dX4_aid_41 : decode cX4_aid 41 = .ok (.iaload, 1) := dk_46 (dk_at dksX4_aid_1 18 rfl rfl)
theorem dX4_aid_42 : decode cX4_aid 42 = .ok (.ifCond .ne 6, 3) := dk_154 0 6 (dk_at dksX4_aid_1 19 rfl rfl)
theorem dX4_aid_45 : decode cX4_aid 45 = .ok (.bipush (-2), 2) := dk_16 254 (dk_at dksX4_aid_1 22 rfl rfl)
theorem dX4_aid_47 : decode cX4_aid 47 = .ok (.ireturn, 1) := dk_172 (dk_at dksX4_aid_2 0 rfl rfl)
theorem dX4_aid_48 : decode cX4_aid 48 = .ok (.aload_n 0, 1) := dk_42 (dk_at dksX4_aid_2 1 rfl rfl)
theorem dX4_aid_49 : decode cX4_aid 49 = .ok (.invokevirtual 252, 3) := dk_182 0 252 (dk_at dksX4_aid_2 2 rfl rfl)
theorem dX4_aid_52 : decode cX4_aid 52 = .ok (.iconst 0, 1) := dk_3 (dk_at dksX4_aid_2 5 rfl rfl)
theorem dX4_aid_53 : decode cX4_aid 53 = .ok (.istore 4, 2) := dk_54 4 (dk_at dksX4_aid_2 6 rfl rfl)
theorem dX4_aid_55 : decode cX4_aid 55 = .ok (.iload 4, 2) := dk_21 4 (dk_at dksX4_aid_2 8 rfl rfl)
theorem dX4_aid_57 : decode cX4_aid 57 = .ok (.bipush 6, 2) := dk_16 6 (dk_at dksX4_aid_2 10 rfl rfl)
theorem dX4_aid_59 : decode cX4_aid 59 = .ok (.if_icmp .ge 17, 3) := dk_162 0 17 (dk_at dksX4_aid_2 12 rfl rfl)
theorem dX4_aid_62 : decode cX4_aid 62 = .ok (.aload_n 0, 1) := dk_42 (dk_at dksX4_aid_2 15 rfl rfl)
theorem dX4_aid_63 : decode cX4_aid 63 = .ok (.getfield 56, 3) := dk_180 0 56 (dk_at dksX4_aid_2 16 rfl rfl)
theorem dX4_aid_66 : decode cX4_aid 66 = .ok (.iload 4, 2) := dk_21 4 (dk_at dksX4_aid_2 19 rfl rfl)
theorem dX4_aid_68 : decode cX4_aid 68 = .ok (.iconst 0, 1) := dk_3 (dk_at dksX4_aid_2 21 rfl rfl)
theorem dX4_aid_69 : decode cX4_aid 69 = .ok (.iastore, 1) := dk_79 (dk_at dksX4_aid_2 22 rfl rfl)
theorem dX4_aid_70 : decode cX4_aid 70 = .ok (.iinc 4 1, 3) := dk_132 4 1 (dk_at dksX4_aid_3 0 rfl rfl)
theorem dX4_aid_73 : decode cX4_aid 73 = .ok (.goto (-18), 3) := dk_167 255 238 (dk_at dksX4_aid_3 3 rfl rfl)
theorem dX4_aid_76 : decode cX4_aid 76 = .ok (.iconst 0, 1) := dk_3 (dk_at dksX4_aid_3 6 rfl rfl)
theorem dX4_aid_77 : decode cX4_aid 77 = .ok (.istore 4, 2) := dk_54 4 (dk_at dksX4_aid_3 7 rfl rfl)
theorem dX4_aid_79 : decode cX4_aid 79 = .ok (.iload 4, 2) := dk_21 4 (dk_at dksX4_aid_3 9 rfl rfl)
theorem dX4_aid_81 : decode cX4_aid 81 = .ok (.iload_n 1, 1) := dk_27 (dk_at dksX4_aid_3 11 rfl rfl)
theorem dX4_aid_82 : decode cX4_aid 82 = .ok (.if_icmp .ge 38, 3) := dk_162 0 38 (dk_at dksX4_aid_3 12 rfl rfl)
theorem dX4_aid_85 : decode cX4_aid 85 = .ok (.aload_n 0, 1) := dk_42 (dk_at dksX4_aid_3 15 rfl rfl)
theorem dX4_aid_86 : decode cX4_aid 86 = .ok (.iload_n 2, 1) := dk_28 (dk_at dksX4_aid_3 16 rfl rfl)
theorem dX4_aid_87 : decode cX4_aid 87 = .ok (.invokevirtual 318, 3) := dk_182 1 62 (dk_at dksX4_aid_3 17 rfl rfl)
theorem dX4_aid_90 : decode cX4_aid 90 = .ok (.istore 5, 2) := dk_54 5 (dk_at dksX4_aid_3 20 rfl rfl)
theorem dX4_aid_92 : decode cX4_aid 92 = .ok (.aload_n 0, 1) := dk_42 (dk_at dksX4_aid_3 22 rfl rfl)
theorem dX4_aid_93 : decode cX4_aid 93 = .ok (.getfield 28, 3) := dk_180 0 28 (dk_at dksX4_aid_4 0 rfl rfl)
theorem dX4_aid_96 : decode cX4_aid 96 = .ok (.iload 5, 2) := dk_21 5 (dk_at dksX4_aid_4 3 rfl rfl)
theorem dX4_aid_98 : decode cX4_aid 98 = .ok (.dup2, 1) := dk_92 (dk_at dksX4_aid_4 5 rfl rfl)
theorem dX4_aid_99 : decode cX4_aid 99 = .ok (.iaload, 1) := dk_46 (dk_at dksX4_aid_4 6 rfl rfl)
theorem dX4_aid_100 : decode cX4_aid 100 = .ok (.iload_n 2, 1) := dk_28 (dk_at dksX4_aid_4 7 rfl rfl)
theorem dX4_aid_101 : decode cX4_aid 101 = .ok (.iadd, 1) := dk_96 (dk_at dksX4_aid_4 8 rfl rfl)
theorem dX4_aid_102 : decode cX4_aid 102 = .ok (.iastore, 1) := dk_79 (dk_at dksX4_aid_4 9 rfl rfl)
theorem dX4_aid_103 : decode cX4_aid 103 = .ok (.aload_n 0, 1) := dk_42 (dk_at dksX4_aid_4 10 rfl rfl)
theorem dX4_aid_104 : decode cX4_aid 104 = .ok (.getfield 56, 3) := dk_180 0 56 (dk_at dksX4_aid_4 11 rfl rfl)
theorem dX4_aid_107 : decode cX4_aid 107 = .ok (.iload 5, 2) := dk_21 5 (dk_at dksX4_aid_4 14 rfl rfl)
theorem dX4_aid_109 : decode cX4_aid 109 = .ok (.dup2, 1) := dk_92 (dk_at dksX4_aid_4 16 rfl rfl)
theorem dX4_aid_110 : decode cX4_aid 110 = .ok (.iaload, 1) := dk_46 (dk_at dksX4_aid_4 17 rfl rfl)
theorem dX4_aid_111 : decode cX4_aid 111 = .ok (.iconst 1, 1) := dk_4 (dk_at dksX4_aid_4 18 rfl rfl)
theorem dX4_aid_112 : decode cX4_aid 112 = .ok (.iadd, 1) := dk_96 (dk_at dksX4_aid_4 19 rfl rfl)
theorem dX4_aid_113 : decode cX4_aid 113 = .ok (.iastore, 1) := dk_79 (dk_at dksX4_aid_4 20 rfl rfl)
theorem dX4_aid_114 : decode cX4_aid 114 = .ok (.iinc 4 1, 3) := dk_132 4 1 (dk_at dksX4_aid_4 21 rfl rfl)
theorem dX4_aid_117 : decode cX4_aid 117 = .ok (.goto (-38), 3) := dk_167 255 218 (dk_at dksX4_aid_5 0 rfl rfl)
theorem dX4_aid_120 : decode cX4_aid 120 = .ok (.iload_n 3, 1) := dk_29 (dk_at dksX4_aid_5 3 rfl rfl)
theorem dX4_aid_121 : decode cX4_aid 121 = .ok (.iconst (-1), 1) := dk_2 (dk_at dksX4_aid_5 4 rfl rfl)
theorem dX4_aid_122 : decode cX4_aid 122 = .ok (.if_icmp .ne 10, 3) := dk_160 0 10 (dk_at dksX4_aid_5 5 rfl rfl)
theorem dX4_aid_125 : decode cX4_aid 125 = .ok (.aload_n 0, 1) := dk_42 (dk_at dksX4_aid_5 8 rfl rfl)
theorem dX4_aid_126 : decode cX4_aid 126 = .ok (.invokevirtual 312, 3) := dk_182 1 56 (dk_at dksX4_aid_5 9 rfl rfl)
theorem dX4_aid_129 : decode cX4_aid 129 = .ok (.goto 9, 3) := dk_167 0 9 (dk_at dksX4_aid_5 12 rfl rfl)
theorem dX4_aid_132 : decode cX4_aid 132 = .ok (.aload_n 0, 1) := dk_42 (dk_at dksX4_aid_5 15 rfl rfl)
theorem dX4_aid_133 : decode cX4_aid 133 = .ok (.getfield 56, 3) := dk_180 0 56 (dk_at dksX4_aid_5 16 rfl rfl)
theorem dX4_aid_136 : decode cX4_aid 136 = .ok (.iload_n 3, 1) := dk_29 (dk_at dksX4_aid_5 19 rfl rfl)
theorem dX4_aid_137 : decode cX4_aid 137 = .ok (.iaload, 1) := dk_46 (dk_at dksX4_aid_5 20 rfl rfl)
theorem dX4_aid_138 : decode cX4_aid 138 = .ok (.ireturn, 1) := dk_172 (dk_at dksX4_aid_5 21 rfl rfl)
def dkwX4_bestAid_4 : List UInt8 := [42, 180, 0, 59, 29, 46, 172]
abbrev dktX4_bestAid_4 : List UInt8 := dkwX4_bestAid_4 ++ []
def dkwX4_bestAid_3 : List UInt8 := [132, 4, 1, 167, 255, 238, 42, 27, 28, 182, 1, 71, 29, 2, 160, 0, 10, 42, 180, 1, 59, 167, 0, 9]
abbrev dktX4_bestAid_3 : List UInt8 := dkwX4_bestAid_3 ++ dktX4_bestAid_4
def dkwX4_bestAid_2 : List UInt8 := [172, 42, 182, 0, 252, 3, 54, 4, 21, 4, 16, 6, 162, 0, 17, 42, 180, 0, 56, 21, 4, 3, 79]
abbrev dktX4_bestAid_2 : List UInt8 := dkwX4_bestAid_2 ++ dktX4_bestAid_3
def dkwX4_bestAid_1 : List UInt8 := [159, 0, 13, 42, 29, 182, 0, 237, 154, 0, 5, 2, 172, 42, 180, 0, 7, 4, 46, 154, 0, 6, 16, 254]
abbrev dktX4_bestAid_1 : List UInt8 := dkwX4_bestAid_1 ++ dktX4_bestAid_2
def dkwX4_bestAid_0 : List UInt8 := [27, 3, 7, 184, 0, 68, 153, 0, 27, 28, 4, 17, 3, 231, 184, 0, 68, 153, 0, 16, 29, 2]
abbrev dktX4_bestAid_0 : List UInt8 := dkwX4_bestAid_0 ++ dktX4_bestAid_1
theorem dksX4_bestAid_0 : cX4_bestAid.data.toList.drop 0 = dktX4_bestAid_0 := by decide +kernel
theorem dksX4_bestAid_1 : cX4_bestAid.data.toList.drop 22 = dktX4_bestAid_1 := dk_seg dksX4_bestAid_0 22 rfl rfl
theorem dksX4_bestAid_2 : cX4_bestAid.data.toList.drop 46 = dktX4_bestAid_2 := dk_seg dksX4_bestAid_1 24 rfl rfl
theorem dksX4_bestAid_3 : cX4_bestAid.data.toList.drop 69 = dktX4_bestAid_3 := dk_seg dksX4_bestAid_2 23 rfl rfl
theorem dksX4_bestAid_4 : cX4_bestAid.data.toList.drop 93 = dktX4_bestAid_4 := dk_seg dksX4_bestAid_3 24 rfl rfl
theorem dX4_bestAid_0 : decode cX4_bestAid 0 = .ok (.iload_n 1, 1) := dk_27 (dk_at dksX4_bestAid_0 0 rfl rfl)
theorem dX4_bestAid_1 : decode cX4_bestAid 1 = .ok (.iconst 0, 1) := dk_3 (dk_at dksX4_bestAid_0 1 rfl rfl)
theorem dX4_bestAid_2 : decode cX4_bestAid 2 = .ok (.iconst 4, 1) := dk_7 (dk_at dksX4_bestAid_0 2 rfl rfl)
theorem dX4_bestAid_3 : decode cX4_bestAid 3 = .ok (.invokestatic 68, 3) := dk_184 0 68 (dk_at dksX4_bestAid_0 3 rfl rfl)
theorem dX4_bestAid_6 : decode cX4_bestAid 6 = .ok (.ifCond .eq 27, 3) := dk_153 0 27 (dk_at dksX4_bestAid_0 6 rfl rfl)
theorem dX4_bestAid_9 : decode cX4_bestAid 9 = .ok (.iload_n 2, 1) := dk_28 (dk_at dksX4_bestAid_0 9 rfl rfl)
theorem dX4_bestAid_10 : decode cX4_bestAid 10 = .ok (.iconst 1, 1) := dk_4 (dk_at dksX4_bestAid_0 10 rfl rfl)
theorem dX4_bestAid_11 : decode cX4_bestAid 11 = .ok (.sipush 999, 3) := dk_17 3 231 (dk_at dksX4_bestAid_0 11 rfl rfl)
theorem dX4_bestAid_14 : decode cX4_bestAid 14 = .ok (.invokestatic 68, 3) := dk_184 0 68 (dk_at dksX4_bestAid_0 14 rfl rfl)
theorem dX4_bestAid_17 : decode cX4_bestAid 17 = .ok (.ifCond .eq 16, 3) := dk_153 0 16 (dk_at dksX4_bestAid_0 17 rfl rfl)
theorem dX4_bestAid_20 : decode cX4_bestAid 20 = .ok (.iload_n 3, 1) := dk_29 (dk_at dksX4_bestAid_0 20 rfl rfl)
theorem dX4_bestAid_21 : decode cX4_bestAid 21 = .ok (.iconst (-1), 1) := dk_2 (dk_at dksX4_bestAid_0 21 rfl rfl)
theorem dX4_bestAid_22 : decode cX4_bestAid 22 = .ok (.if_icmp .eq 13, 3) := dk_159 0 13 (dk_at dksX4_bestAid_1 0 rfl rfl)
theorem dX4_bestAid_25 : decode cX4_bestAid 25 = .ok (.aload_n 0, 1) := dk_42 (dk_at dksX4_bestAid_1 3 rfl rfl)
theorem dX4_bestAid_26 : decode cX4_bestAid 26 = .ok (.iload_n 3, 1) := dk_29 (dk_at dksX4_bestAid_1 4 rfl rfl)
theorem dX4_bestAid_27 : decode cX4_bestAid 27 = .ok (.invokevirtual 237, 3) := dk_182 0 237 (dk_at dksX4_bestAid_1 5 rfl rfl)
theorem dX4_bestAid_30 : decode cX4_bestAid 30 = .ok (.ifCond .ne 5, 3) := dk_154 0 5 (dk_at dksX4_bestAid_1 8 rfl rfl)
theorem dX4_bestAid_33 : decode cX4_bestAid 33 = .ok (.iconst (-1), 1) := dk_2 (dk_at dksX4_bestAid_1 11 rfl rfl)
theorem dX4_bestAid_34 : decode cX4_bestAid 34 = .ok (.ireturn, 1) := dk_172 (dk_at dksX4_bestAid_1 12 rfl rfl)
theorem dX4_bestAid_35 : decode cX4_bestAid 35 = .ok (.aload_n 0, 1) := dk_42 (dk_at dksX4_bestAid_1 13 rfl rfl)
theorem dX4_bestAid_36 : decode cX4_bestAid 36 = .ok (.getfield 7, 3) := dk_180 0 7 (dk_at dksX4_bestAid_1 14 rfl rfl)
theorem dX4_bestAid_39 : decode cX4_bestAid 39 = .ok (.iconst 1, 1) := dk_4 (dk_at dksX4_bestAid_1 17 rfl rfl)
theorem dX4_bestAid_40 : decode cX4_bestAid 40 = .ok (.iaload, 1) := dk_46 (dk_at dksX4_bestAid_1 18 rfl rfl)
theorem dX4_bestAid_41 : decode cX4_bestAid 41 = .ok (.ifCond .ne 6, 3) := dk_154 0 6 (dk_at dksX4_bestAid_1 19 rfl rfl)
theorem dX4_bestAid_44 : decode cX4_bestAid 44 = .ok (.bipush (-2), 2) := dk_16 254 (dk_at dksX4_bestAid_1 22 rfl rfl)
theorem dX4_bestAid_46 : decode cX4_bestAid 46 = .ok (.ireturn, 1) := dk_172 (dk_at dksX4_bestAid_2 0 rfl rfl)
theorem dX4_bestAid_47 : decode cX4_bestAid 47 = .ok (.aload_n 0, 1) := dk_42 (dk_at dksX4_bestAid_2 1 rfl rfl)
theorem dX4_bestAid_48 : decode cX4_bestAid 48 = .ok (.invokevirtual 252, 3) := dk_182 0 252 (dk_at dksX4_bestAid_2 2 rfl rfl)
theorem dX4_bestAid_51 : decode cX4_bestAid 51 = .ok (.iconst 0, 1) := dk_3 (dk_at dksX4_bestAid_2 5 rfl rfl)
theorem dX4_bestAid_52 : decode cX4_bestAid 52 = .ok (.istore 4, 2) := dk_54 4 (dk_at dksX4_bestAid_2 6 rfl rfl)
theorem dX4_bestAid_54 : decode cX4_bestAid 54 = .ok (.iload 4, 2) := dk_21 4 (dk_at dksX4_bestAid_2 8 rfl rfl)
theorem dX4_bestAid_56 : decode cX4_bestAid 56 = .ok (.bipush 6, 2) := dk_16 6 (dk_at dksX4_bestAid_2 10 rfl rfl)
theorem dX4_bestAid_58 : decode cX4_bestAid 58 = .ok (.if_icmp .ge 17, 3) := dk_162 0 17 (dk_at dksX4_bestAid_2 12 rfl rfl)
theorem dX4_bestAid_61 : decode cX4_bestAid 61 = .ok (.aload_n 0, 1) := dk_42 (dk_at dksX4_bestAid_2 15 rfl rfl)
theorem dX4_bestAid_62 : decode cX4_bestAid 62 = .ok (.getfield 56, 3) := dk_180 0 56 (dk_at dksX4_bestAid_2 16 rfl rfl)
theorem dX4_bestAid_65 : decode cX4_bestAid 65 = .ok (.iload 4, 2) := dk_21 4 (dk_at dksX4_bestAid_2 19 rfl rfl)
theorem dX4_bestAid_67 : decode cX4_bestAid 67 = .ok (.iconst 0, 1) := dk_3 (dk_at dksX4_bestAid_2 21 rfl rfl)
theorem dX4_bestAid_68 : decode cX4_bestAid 68 = .ok (.iastore, 1) := dk_79 (dk_at dksX4_bestAid_2 22 rfl rfl)
theorem dX4_bestAid_69 : decode cX4_bestAid 69 = .ok (.iinc 4 1, 3) := dk_132 4 1 (dk_at dksX4_bestAid_3 0 rfl rfl)
theorem dX4_bestAid_72 : decode cX4_bestAid 72 = .ok (.goto (-18), 3) := dk_167 255 238 (dk_at dksX4_bestAid_3 3 rfl rfl)
theorem dX4_bestAid_75 : decode cX4_bestAid 75 = .ok (.aload_n 0, 1) := dk_42 (dk_at dksX4_bestAid_3 6 rfl rfl)
theorem dX4_bestAid_76 : decode cX4_bestAid 76 = .ok (.iload_n 1, 1) := dk_27 (dk_at dksX4_bestAid_3 7 rfl rfl)
theorem dX4_bestAid_77 : decode cX4_bestAid 77 = .ok (.iload_n 2, 1) := dk_28 (dk_at dksX4_bestAid_3 8 rfl rfl)
theorem dX4_bestAid_78 : decode cX4_bestAid 78 = .ok (.invokevirtual 327, 3) := dk_182 1 71 (dk_at dksX4_bestAid_3 9 rfl rfl)
theorem dX4_bestAid_81 : decode cX4_bestAid 81 = .ok (.iload_n 3, 1) := dk_29 (dk_at dksX4_bestAid_3 12 rfl rfl)
theorem dX4_bestAid_82 : decode cX4_bestAid 82 = .ok (.iconst (-1), 1) := dk_2 (dk_at dksX4_bestAid_3 13 rfl rfl)
theorem dX4_bestAid_83 : decode cX4_bestAid 83 = .ok (.if_icmp .ne 10, 3) := dk_160 0 10 (dk_at dksX4_bestAid_3 14 rfl rfl)
theorem dX4_bestAid_86 : decode cX4_bestAid 86 = .ok (.aload_n 0, 1) := dk_42 (dk_at dksX4_bestAid_3 17 rfl rfl)
theorem dX4_bestAid_87 : decode cX4_bestAid 87 = .ok (.getfield 315, 3) := dk_180 1 59 (dk_at dksX4_bestAid_3 18 rfl rfl)
theorem dX4_bestAid_90 : decode cX4_bestAid 90 = .ok (.goto 9, 3) := dk_167 0 9 (dk_at dksX4_bestAid_3 21 rfl rfl)
theorem dX4_bestAid_93 : decode cX4_bestAid 93 = .ok (.aload_n 0, 1) := dk_42 (dk_at dksX4_bestAid_4 0 rfl rfl)
theorem dX4_bestAid_94 : decode cX4_bestAid 94 = .ok (.getfield 59, 3) := dk_180 0 59 (dk_at dksX4_bestAid_4 1 rfl rfl)
theorem dX4_bestAid_97 : decode cX4_bestAid 97 = .ok (.iload_n 3, 1) := dk_29 (dk_at dksX4_bestAid_4 4 rfl rfl)
theorem dX4_bestAid_98 : decode cX4_bestAid 98 = .ok (.iaload, 1) := dk_46 (dk_at dksX4_bestAid_4 5 rfl rfl)
theorem dX4_bestAid_99 : decode cX4_bestAid 99 = .ok (.ireturn, 1) := dk_172 (dk_at dksX4_bestAid_4 6 rfl rfl)
def dkwX4_ways_5 : List UInt8 := [167, 255, 232, 132, 4, 1, 167, 255, 171, 177]
abbrev dktX4_ways_5 : List UInt8 := dkwX4_ways_5 ++ []
def dkwX4_ways_4 : List UInt8 := [16, 6, 162, 0, 23, 42, 180, 0, 59, 21, 6, 42, 180, 0, 56, 21, 6, 46, 79, 132, 6, 1]
abbrev dktX4_ways_4 : List UInt8 := dkwX4_ways_4 ++ dktX4_ways_5
def dkwX4_ways_3 : List UInt8 := [21, 5, 42, 180, 1, 59, 161, 0, 6, 167, 0, 39, 42, 21, 5, 181, 1, 59, 3, 54, 6, 21, 6]
abbrev dktX4_ways_3 : List UInt8 := dkwX4_ways_3 ++ dktX4_ways_4
def dkwX4_ways_2 : List UInt8 := [28, 182, 1, 68, 154, 0, 6, 167, 0, 65, 42, 182, 1, 56, 54, 5, 42, 180, 1, 59, 2, 159, 0, 15]
abbrev dktX4_ways_2 : List UInt8 := dkwX4_ways_2 ++ dktX4_ways_3
def dkwX4_ways_1 : List UInt8 := [132, 4, 1, 167, 255, 236, 42, 2, 181, 1, 59, 3, 54, 4, 21, 4, 29, 162, 0, 85, 42, 21, 4, 27]
abbrev dktX4_ways_1 : List UInt8 := dkwX4_ways_1 ++ dktX4_ways_2
def dkwX4_ways_0 : List UInt8 := [4, 62, 3, 54, 4, 21, 4, 42, 180, 0, 7, 4, 46, 162, 0, 15, 29, 27, 4, 96, 104, 62]
abbrev dktX4_ways_0 : List UInt8 := dkwX4_ways_0 ++ dktX4_ways_1
theorem dksX4_ways_0 : cX4_ways.data.toList.drop 0 = dktX4_ways_0 := by decide +kernel
theorem dksX4_ways_1 : cX4_ways.data.toList.drop 22 = dktX4_ways_1 := dk_seg dksX4_ways_0 22 rfl rfl
theorem dksX4_ways_2 : cX4_ways.data.toList.drop 46 = dktX4_ways_2 := dk_seg dksX4_ways_1 24 rfl rfl
theorem dksX4_ways_3 : cX4_ways.data.toList.drop 70 = dktX4_ways_3 := dk_seg dksX4_ways_2 24 rfl rfl
theorem dksX4_ways_4 : cX4_ways.data.toList.drop 93 = dktX4_ways_4 := dk_seg dksX4_ways_3 23 rfl rfl
theorem dksX4_ways_5 : cX4_ways.data.toList.drop 115 = dktX4_ways_5 := dk_seg dksX4_ways_4 22 rfl rfl
theorem dX4_ways_0 : decode cX4_ways 0 = .ok (.iconst 1, 1) := dk_4 (dk_at dksX4_ways_0 0 rfl rfl)
theorem dX4_ways_1 : decode cX4_ways 1 = .ok (.istore_n 3, 1) := dk_62 (dk_at dksX4_ways_0 1 rfl rfl)
theorem dX4_ways_2 : decode cX4_ways 2 = .ok (.iconst 0, 1) := dk_3 (dk_at dksX4_ways_0 2 rfl rfl)
theorem dX4_ways_3 : decode cX4_ways 3 = .ok (.istore 4, 2) := dk_54 4 (dk_at dksX4_ways_0 3 rfl rfl)
theorem dX4_ways_5 : decode cX4_ways 5 = .ok (.iload 4, 2) := dk_21 4 (dk_at dksX4_ways_0 5 rfl rfl)
theorem dX4_ways_7 : decode cX4_ways 7 = .ok (.aload_n 0, 1) := dk_42 (dk_at dksX4_ways_0 7 rfl rfl)
theorem dX4_ways_8 : decode cX4_ways 8 = .ok (.getfield 7, 3) := dk_180 0 7 (dk_at dksX4_ways_0 8 rfl rfl)
theorem dX4_ways_11 : decode cX4_ways 11 = .ok (.iconst 1, 1) := dk_4 (dk_at dksX4_ways_0 11 rfl rfl)
theorem dX4_ways_12 : decode cX4_ways 12 = .ok (.iaload, 1) := dk_46 (dk_at dksX4_ways_0 12 rfl rfl)
theorem dX4_ways_13 : decode cX4_ways 13 = .ok (.if_icmp .ge 15, 3) := dk_162 0 15 (dk_at dksX4_ways_0 13 rfl rfl)
theorem dX4_ways_16 : decode cX4_ways 16 = .ok (.iload_n 3, 1) := dk_29 (dk_at dksX4_ways_0 16 rfl rfl)
theorem dX4_ways_17 : decode cX4_ways 17 = .ok (.iload_n 1, 1) := dk_27 (dk_at dksX4_ways_0 17 rfl rfl)
theorem dX4_ways_18 : decode cX4_ways 18 = .ok (.iconst 1, 1) := dk_4 (dk_at dksX4_ways_0 18 rfl rfl)
theorem dX4_ways_19 : decode cX4_ways 19 = .ok (.iadd, 1) := dk_96 (dk_at dksX4_ways_0 19 rfl rfl)
theorem dX4_ways_20 : decode cX4_ways 20 = .ok (.imul, 1) := dk_104 (dk_at dksX4_ways_0 20 rfl rfl)
theorem dX4_ways_21 : decode cX4_ways 21 = .ok (.istore_n 3, 1) := dk_62 (dk_at dksX4_ways_0 21 rfl rfl)
theorem dX4_ways_22 : decode cX4_ways 22 = .ok (.iinc 4 1, 3) := dk_132 4 1 (dk_at dksX4_ways_1 0 rfl rfl)
theorem dX4_ways_25 : decode cX4_ways 25 = .ok (.goto (-20), 3) := dk_167 255 236 (dk_at dksX4_ways_1 3 rfl rfl)
theorem dX4_ways_28 : decode cX4_ways 28 = .ok (.aload_n 0, 1) := dk_42 (dk_at dksX4_ways_1 6 rfl rfl)
theorem dX4_ways_29 : decode cX4_ways 29 = .ok (.iconst (-1), 1) := dk_2 (dk_at dksX4_ways_1 7 rfl rfl)
theorem dX4_ways_30 : decode cX4_ways 30 = .ok (.putfield 315, 3) := dk_181 1 59 (dk_at dksX4_ways_1 8 rfl rfl)
theorem dX4_ways_33 : decode cX4_ways 33 = .ok (.iconst 0, 1) := dk_3 (dk_at dksX4_ways_1 11 rfl rfl)
theorem dX4_ways_34 : decode cX4_ways 34 = .ok (.istore 4, 2) := dk_54 4 (dk_at dksX4_ways_1 12 rfl rfl)
theorem dX4_ways_36 : decode cX4_ways 36 = .ok (.iload 4, 2) := dk_21 4 (dk_at dksX4_ways_1 14 rfl rfl)
theorem dX4_ways_38 : decode cX4_ways 38 = .ok (.iload_n 3, 1) := dk_29 (dk_at dksX4_ways_1 16 rfl rfl)
theorem dX4_ways_39 : decode cX4_ways 39 = .ok (.if_icmp .ge 85, 3) := dk_162 0 85 (dk_at dksX4_ways_1 17 rfl rfl)
theorem dX4_ways_42 : decode cX4_ways 42 = .ok (.aload_n 0, 1) := dk_42 (dk_at dksX4_ways_1 20 rfl rfl)
theorem dX4_ways_43 : decode cX4_ways 43 = .ok (.iload 4, 2) := dk_21 4 (dk_at dksX4_ways_1 21 rfl rfl)
theorem dX4_ways_45 : decode cX4_ways 45 = .ok (.iload_n 1, 1) := dk_27 (dk_at dksX4_ways_1 23 rfl rfl)
theorem dX4_ways_46 : decode cX4_ways 46 = .ok (.iload_n 2, 1) := dk_28 (dk_at dksX4_ways_2 0 rfl rfl)
theorem dX4_ways_47 : decode cX4_ways 47 = .ok (.invokevirtual 324, 3) := dk_182 1 68 (dk_at dksX4_ways_2 1 rfl rfl)
theorem dX4_ways_50 : decode cX4_ways 50 = .ok (.ifCond .ne 6, 3) := dk_154 0 6 (dk_at dksX4_ways_2 4 rfl rfl)
theorem dX4_ways_53 : decode cX4_ways 53 = .ok (.goto 65, 3) := dk_167 0 65 (dk_at dksX4_ways_2 7 rfl rfl)
theorem dX4_ways_56 : decode cX4_ways 56 = .ok (.aload_n 0, 1) := dk_42 (dk_at dksX4_ways_2 10 rfl rfl)
theorem dX4_ways_57 : decode cX4_ways 57 = .ok (.invokevirtual 312, 3) := dk_182 1 56 (dk_at dksX4_ways_2 11 rfl rfl)
theorem dX4_ways_60 : decode cX4_ways 60 = .ok (.istore 5, 2) := dk_54 5 (dk_at dksX4_ways_2 14 rfl rfl)
theorem dX4_ways_62 : decode cX4_ways 62 = .ok (.aload_n 0, 1) := dk_42 (dk_at dksX4_ways_2 16 rfl rfl)
theorem dX4_ways_63 : decode cX4_ways 63 = .ok (.getfield 315, 3) := dk_180 1 59 (dk_at dksX4_ways_2 17 rfl rfl)
theorem dX4_ways_66 : decode cX4_ways 66 = .ok (.iconst (-1), 1) := dk_2 (dk_at dksX4_ways_2 20 rfl rfl)
theorem dX4_ways_67 : decode cX4_ways 67 = .ok (.if_icmp .eq 15, 3) := dk_159 0 15 (dk_at dksX4_ways_2 21 rfl rfl)
theorem dX4_ways_70 : decode cX4_ways 70 = .ok (.iload 5, 2) := dk_21 5 (dk_at dksX4_ways_3 0 rfl rfl)
theorem dX4_ways_72 : decode cX4_ways 72 = .ok (.aload_n 0, 1) := dk_42 (dk_at dksX4_ways_3 2 rfl rfl)
theorem dX4_ways_73 : decode cX4_ways 73 = .ok (.getfield 315, 3) := dk_180 1 59 (dk_at dksX4_ways_3 3 rfl rfl)
theorem dX4_ways_76 : decode cX4_ways 76 = .ok (.if_icmp .lt 6, 3) := dk_161 0 6 (dk_at dksX4_ways_3 6 rfl rfl)
theorem dX4_ways_79 : decode cX4_ways 79 = .ok (.goto 39, 3) := dk_167 0 39 (dk_at dksX4_ways_3 9 rfl rfl)
theorem dX4_ways_82 : decode cX4_ways 82 = .ok (.aload_n 0, 1) := dk_42 (dk_at dksX4_ways_3 12 rfl rfl)
theorem dX4_ways_83 : decode cX4_ways 83 = .ok (.iload 5, 2) := dk_21 5 (dk_at dksX4_ways_3 13 rfl rfl)
theorem dX4_ways_85 : decode cX4_ways 85 = .ok (.putfield 315, 3) := dk_181 1 59 (dk_at dksX4_ways_3 15 rfl rfl)
theorem dX4_ways_88 : decode cX4_ways 88 = .ok (.iconst 0, 1) := dk_3 (dk_at dksX4_ways_3 18 rfl rfl)
theorem dX4_ways_89 : decode cX4_ways 89 = .ok (.istore 6, 2) := dk_54 6 (dk_at dksX4_ways_3 19 rfl rfl)
theorem dX4_ways_91 : decode cX4_ways 91 = .ok (.iload 6, 2) := dk_21 6 (dk_at dksX4_ways_3 21 rfl rfl)
theorem dX4_ways_93 : decode cX4_ways 93 = .ok (.bipush 6, 2) := dk_16 6 (dk_at dksX4_ways_4 0 rfl rfl)
theorem dX4_ways_95 : decode cX4_ways 95 = .ok (.if_icmp .ge 23, 3) := dk_162 0 23 (dk_at dksX4_ways_4 2 rfl rfl)
theorem dX4_ways_98 : decode cX4_ways 98 = .ok (.aload_n 0, 1) := dk_42 (dk_at dksX4_ways_4 5 rfl rfl)
theorem dX4_ways_99 : decode cX4_ways 99 = .ok (.getfield 59, 3) := dk_180 0 59 (dk_at dksX4_ways_4 6 rfl rfl)
theorem dX4_ways_102 : decode cX4_ways 102 = .ok (.iload 6, 2) := dk_21 6 (dk_at dksX4_ways_4 9 rfl rfl)
theorem dX4_ways_104 : decode cX4_ways 104 = .ok (.aload_n 0, 1) := dk_42 (dk_at dksX4_ways_4 11 rfl rfl)
theorem dX4_ways_105 : decode cX4_ways 105 = .ok (.getfield 56, 3) := dk_180 0 56 (dk_at dksX4_ways_4 12 rfl rfl)
theorem dX4_ways_108 : decode cX4_ways 108 = .ok (.iload 6, 2) := dk_21 6 (dk_at dksX4_ways_4 15 rfl rfl)
theorem dX4_ways_110 : decode cX4_ways 110 = .ok (.iaload, 1) := dk_46 (dk_at dksX4_ways_4 17 rfl rfl)
theorem dX4_ways_111 : decode cX4_ways 111 = .ok (.iastore, 1) := dk_79 (dk_at dksX4_ways_4 18 rfl rfl)
theorem dX4_ways_112 : decode cX4_ways 112 = .ok (.iinc 6 1, 3) := dk_132 6 1 (dk_at dksX4_ways_4 19 rfl rfl)
theorem dX4_ways_115 : decode cX4_ways 115 = .ok (.goto (-24), 3) := dk_167 255 232 (dk_at dksX4_ways_5 0 rfl rfl)
theorem dX4_ways_118 : decode cX4_ways 118 = .ok (.iinc 4 1, 3) := dk_132 4 1 (dk_at dksX4_ways_5 3 rfl rfl)
theorem dX4_ways_121 : decode cX4_ways 121 = .ok (.goto (-85), 3) := dk_167 255 171 (dk_at dksX4_ways_5 6 rfl rfl)
theorem dX4_ways_124 : decode cX4_ways 124 = .ok (.return_, 1) := dk_177 (dk_at dksX4_ways_5 9 rfl rfl)
def dkwX4_isRow_3 : List UInt8 := [132, 6, 255, 167, 255, 199, 21, 5, 28, 160, 0, 7, 4, 167, 0, 4, 3, 172]
abbrev dktX4_isRow_3 : List UInt8 := dkwX4_isRow_3 ++ []
def dkwX4_isRow_2 : List UInt8 := [46, 29, 104, 79, 21, 5, 42, 180, 0, 56, 21, 6, 46, 96, 54, 5, 21, 4, 28, 4, 96, 108, 54, 4]
abbrev dktX4_isRow_2 : List UInt8 := dkwX4_isRow_2 ++ dktX4_isRow_3
def dkwX4_isRow_1 : List UInt8 := [180, 0, 56, 21, 6, 21, 4, 28, 4, 96, 112, 79, 42, 180, 0, 28, 21, 6, 42, 180, 0, 56, 21, 6]
abbrev dktX4_isRow_1 : List UInt8 := dkwX4_isRow_1 ++ dktX4_isRow_2
def dkwX4_isRow_0 : List UInt8 := [27, 54, 4, 3, 54, 5, 42, 180, 0, 7, 4, 46, 4, 100, 54, 6, 21, 6, 155, 0, 58, 42]
abbrev dktX4_isRow_0 : List UInt8 := dkwX4_isRow_0 ++ dktX4_isRow_1
theorem dksX4_isRow_0 : cX4_isRow.data.toList.drop 0 = dktX4_isRow_0 := by decide +kernel
theorem dksX4_isRow_1 : cX4_isRow.data.toList.drop 22 = dktX4_isRow_1 := dk_seg dksX4_isRow_0 22 rfl rfl
theorem dksX4_isRow_2 : cX4_isRow.data.toList.drop 46 = dktX4_isRow_2 := dk_seg dksX4_isRow_1 24 rfl rfl
theorem dksX4_isRow_3 : cX4_isRow.data.toList.drop 70 = dktX4_isRow_3 := dk_seg dksX4_isRow_2 24 rfl rfl
theorem dX4_isRow_0 : decode cX4_isRow 0 = .ok (.iload_n 1, 1) := dk_27 (dk_at dksX4_isRow_0 0 rfl rfl)
theorem dX4_isRow_1 : decode cX4_isRow 1 = .ok (.istore 4, 2) := dk_54 4 (dk_at dksX4_isRow_0 1 rfl rfl)
theorem dX4_isRow_3 : decode cX4_isRow 3 = .ok (.iconst 0, 1) := dk_3 (dk_at dksX4_isRow_0 3 rfl rfl)
theorem dX4_isRow_4 : decode cX4_isRow 4 = .ok (.istore 5, 2) := dk_54 5 (dk_at dksX4_isRow_0 4 rfl rfl)
theorem dX4_isRow_6 : decode cX4_isRow 6 = .ok (.aload_n 0, 1) := dk_42 (dk_at dksX4_isRow_0 6 rfl rfl)
theorem dX4_isRow_7 : decode cX4_isRow 7 = .ok (.getfield 7, 3) := dk_180 0 7 (dk_at dksX4_isRow_0 7 rfl rfl)
theorem dX4_isRow_10 : decode cX4_isRow 10 = .ok (.iconst 1, 1) := dk_4 (dk_at dksX4_isRow_0 10 rfl rfl)
theorem dX4_isRow_11 : decode cX4_isRow 11 = .ok (.iaload, 1) := dk_46 (dk_at dksX4_isRow_0 11 rfl rfl)
theorem dX4_isRow_12 : decode cX4_isRow 12 = .ok (.iconst 1, 1) := dk_4 (dk_at dksX4_isRow_0 12 rfl rfl)
theorem dX4_isRow_13 : decode cX4_isRow 13 = .ok (.isub, 1) := dk_100 (dk_at dksX4_isRow_0 13 rfl rfl)
theorem dX4_isRow_14 : decode cX4_isRow 14 = .ok (.istore 6, 2) := dk_54 6 (dk_at dksX4_isRow_0 14 rfl rfl)
theorem dX4_isRow_16 : decode cX4_isRow 16 = .ok (.iload 6, 2) := dk_21 6 (dk_at dksX4_isRow_0 16 rfl rfl)
theorem dX4_isRow_18 : decode cX4_isRow 18 = .ok (.ifCond .lt 58, 3) := dk_155 0 58 (dk_at dksX4_isRow_0 18 rfl rfl)
theorem dX4_isRow_21 : decode cX4_isRow 21 = .ok (.aload_n 0, 1) := dk_42 (dk_at dksX4_isRow_0 21 rfl rfl)
theorem dX4_isRow_22 : decode cX4_isRow 22 = .ok (.getfield 56, 3) := dk_180 0 56 (dk_at dksX4_isRow_1 0 rfl rfl)
theorem dX4_isRow_25 : decode cX4_isRow 25 = .ok (.iload 6, 2) := dk_21 6 (dk_at dksX4_isRow_1 3 rfl rfl)
theorem dX4_isRow_27 : decode cX4_isRow 27 = .ok (.iload 4, 2) := dk_21 4 (dk_at dksX4_isRow_1 5 rfl rfl)
theorem dX4_isRow_29 : decode cX4_isRow 29 = .ok (.iload_n 2, 1) := dk_28 (dk_at dksX4_isRow_1 7 rfl rfl)
theorem dX4_isRow_30 : decode cX4_isRow 30 = .ok (.iconst 1, 1) := dk_4 (dk_at dksX4_isRow_1 8 rfl rfl)
theorem dX4_isRow_31 : decode cX4_isRow 31 = .ok (.iadd, 1) := dk_96 (dk_at dksX4_isRow_1 9 rfl rfl)
theorem dX4_isRow_32 : decode cX4_isRow 32 = .ok (.irem, 1) := dk_112 (dk_at dksX4_isRow_1 10 rfl rfl)
theorem dX4_isRow_33 : decode cX4_isRow 33 = .ok (.iastore, 1) := dk_79 (dk_at dksX4_isRow_1 11 rfl rfl)
theorem dX4_isRow_34 : decode cX4_isRow 34 = .ok (.aload_n 0, 1) := dk_42 (dk_at dksX4_isRow_1 12 rfl rfl)
theorem dX4_isRow_35 : decode cX4_isRow 35 = .ok (.getfield 28, 3) := dk_180 0 28 (dk_at dksX4_isRow_1 13 rfl rfl)
theorem dX4_isRow_38 : decode cX4_isRow 38 = .ok (.iload 6, 2) := dk_21 6 (dk_at dksX4_isRow_1 16 rfl rfl)
theorem dX4_isRow_40 : decode cX4_isRow 40 = .ok (.aload_n 0, 1) := dk_42 (dk_at dksX4_isRow_1 18 rfl rfl)
theorem dX4_isRow_41 : decode cX4_isRow 41 = .ok (.getfield 56, 3) := dk_180 0 56 (dk_at dksX4_isRow_1 19 rfl rfl)
theorem dX4_isRow_44 : decode cX4_isRow 44 = .ok (.iload 6, 2) := dk_21 6 (dk_at dksX4_isRow_1 22 rfl rfl)
theorem dX4_isRow_46 : decode cX4_isRow 46 = .ok (.iaload, 1) := dk_46 (dk_at dksX4_isRow_2 0 rfl rfl)
theorem dX4_isRow_47 : decode cX4_isRow 47 = .ok (.iload_n 3, 1) := dk_29 (dk_at dksX4_isRow_2 1 rfl rfl)
theorem dX4_isRow_48 : decode cX4_isRow 48 = .ok (.imul, 1) := dk_104 (dk_at dksX4_isRow_2 2 rfl rfl)
theorem dX4_isRow_49 : decode cX4_isRow 49 = .ok (.iastore, 1) := dk_79 (dk_at dksX4_isRow_2 3 rfl rfl)
theorem dX4_isRow_50 : decode cX4_isRow 50 = .ok (.iload 5, 2) := dk_21 5 (dk_at dksX4_isRow_2 4 rfl rfl)
theorem dX4_isRow_52 : decode cX4_isRow 52 = .ok (.aload_n 0, 1) := dk_42 (dk_at dksX4_isRow_2 6 rfl rfl)
theorem dX4_isRow_53 : decode cX4_isRow 53 = .ok (.getfield 56, 3) := dk_180 0 56 (dk_at dksX4_isRow_2 7 rfl rfl)
theorem dX4_isRow_56 : decode cX4_isRow 56 = .ok (.iload 6, 2) := dk_21 6 (dk_at dksX4_isRow_2 10 rfl rfl)
theorem dX4_isRow_58 : decode cX4_isRow 58 = .ok (.iaload, 1) := dk_46 (dk_at dksX4_isRow_2 12 rfl rfl)
theorem dX4_isRow_59 : decode cX4_isRow 59 = .ok (.iadd, 1) := dk_96 (dk_at dksX4_isRow_2 13 rfl rfl)
theorem dX4_isRow_60 : decode cX4_isRow 60 = .ok (.istore 5, 2) := dk_54 5 (dk_at dksX4_isRow_2 14 rfl rfl)
theorem dX4_isRow_62 : decode cX4_isRow 62 = .ok (.iload 4, 2) := dk_21 4 (dk_at dksX4_isRow_2 16 rfl rfl)
theorem dX4_isRow_64 : decode cX4_isRow 64 = .ok (.iload_n 2, 1) := dk_28 (dk_at dksX4_isRow_2 18 rfl rfl)
theorem dX4_isRow_65 : decode cX4_isRow 65 = .ok (.iconst 1, 1) := dk_4 (dk_at dksX4_isRow_2 19 rfl rfl)
theorem dX4_isRow_66 : decode cX4_isRow 66 = .ok (.iadd, 1) := dk_96 (dk_at dksX4_isRow_2 20 rfl rfl)
theorem dX4_isRow_67 : decode cX4_isRow 67 = .ok (.idiv, 1) := dk_108 (dk_at dksX4_isRow_2 21 rfl rfl)
theorem dX4_isRow_68 : decode cX4_isRow 68 = .ok (.istore 4, 2) := dk_54 4 (dk_at dksX4_isRow_2 22 rfl rfl)
theorem dX4_isRow_70 : decode cX4_isRow 70 = .ok (.iinc 6 (-1), 3) := dk_132 6 255 (dk_at dksX4_isRow_3 0 rfl rfl)
theorem dX4_isRow_73 : decode cX4_isRow 73 = .ok (.goto (-57), 3) := dk_167 255 199 (dk_at dksX4_isRow_3 3 rfl rfl)
theorem dX4_isRow_76 : decode cX4_isRow 76 = .ok (.iload 5, 2) := dk_21 5 (dk_at dksX4_isRow_3 6 rfl rfl)
theorem dX4_isRow_78 : decode cX4_isRow 78 = .ok (.iload_n 2, 1) := dk_28 (dk_at dksX4_isRow_3 8 rfl rfl)
theorem dX4_isRow_79 : decode cX4_isRow 79 = .ok (.if_icmp .ne 7, 3) := dk_160 0 7 (dk_at dksX4_isRow_3 9 rfl rfl)
theorem dX4_isRow_82 : decode cX4_isRow 82 = .ok (.iconst 1, 1) := dk_4 (dk_at dksX4_isRow_3 12 rfl rfl)
theorem dX4_isRow_83 : decode cX4_isRow 83 = .ok (.goto 4, 3) := dk_167 0 4 (dk_at dksX4_isRow_3 13 rfl rfl)
theorem dX4_isRow_86 : decode cX4_isRow 86 = .ok (.iconst 0, 1) := dk_3 (dk_at dksX4_isRow_3 16 rfl rfl)
theorem dX4_isRow_87 : decode cX4_isRow 87 = .ok (.ireturn, 1) := dk_172 (dk_at dksX4_isRow_3 17 rfl rfl)
def dkwX4_buyer_2 : List UInt8 := [29, 182, 1, 2, 172]
abbrev dktX4_buyer_2 : List UInt8 := dkwX4_buyer_2 ++ []
def dkwX4_buyer_1 : List UInt8 := [154, 0, 5, 2, 172, 42, 182, 0, 252, 42, 27, 181, 0, 38, 42, 28, 181, 0, 162, 42, 182, 0, 255, 42]
abbrev dktX4_buyer_1 : List UInt8 := dkwX4_buyer_1 ++ dktX4_buyer_2
def dkwX4_buyer_0 : List UInt8 := [42, 27, 182, 0, 224, 153, 0, 22, 28, 3, 17, 1, 104, 184, 0, 68, 153, 0, 11, 42, 29, 182, 1, 11]
abbrev dktX4_buyer_0 : List UInt8 := dkwX4_buyer_0 ++ dktX4_buyer_1
theorem dksX4_buyer_0 : cX4_buyer.data.toList.drop 0 = dktX4_buyer_0 := by decide +kernel
theorem dksX4_buyer_1 : cX4_buyer.data.toList.drop 24 = dktX4_buyer_1 := dk_seg dksX4_buyer_0 24 rfl rfl
theorem dksX4_buyer_2 : cX4_buyer.data.toList.drop 48 = dktX4_buyer_2 := dk_seg dksX4_buyer_1 24 rfl rfl
theorem dX4_buyer_0 : decode cX4_buyer 0 = .ok (.aload_n 0, 1) := dk_42 (dk_at dksX4_buyer_0 0 rfl rfl)
theorem dX4_buyer_1 : decode cX4_buyer 1 = .ok (.iload_n 1, 1) := dk_27 (dk_at dksX4_buyer_0 1 rfl rfl)
theorem dX4_buyer_2 : decode cX4_buyer 2 = .ok (.invokevirtual 224, 3) := dk_182 0 224 (dk_at dksX4_buyer_0 2 rfl rfl)
theorem dX4_buyer_5 : decode cX4_buyer 5 = .ok (.ifCond .eq 22, 3) := dk_153 0 22 (dk_at dksX4_buyer_0 5 rfl rfl)
theorem dX4_buyer_8 : decode cX4_buyer 8 = .ok (.iload_n 2, 1) := dk_28 (dk_at dksX4_buyer_0 8 rfl rfl)
theorem dX4_buyer_9 : decode cX4_buyer 9 = .ok (.iconst 0, 1) := dk_3 (dk_at dksX4_buyer_0 9 rfl rfl)
theorem dX4_buyer_10 : decode cX4_buyer 10 = .ok (.sipush 360, 3) := dk_17 1 104 (dk_at dksX4_buyer_0 10 rfl rfl)
theorem dX4_buyer_13 : decode cX4_buyer 13 = .ok (.invokestatic 68, 3) := dk_184 0 68 (dk_at dksX4_buyer_0 13 rfl rfl)
theorem dX4_buyer_16 : decode cX4_buyer 16 = .ok (.ifCond .eq 11, 3) := dk_153 0 11 (dk_at dksX4_buyer_0 16 rfl rfl)
theorem dX4_buyer_19 : decode cX4_buyer 19 = .ok (.aload_n 0, 1) := dk_42 (dk_at dksX4_buyer_0 19 rfl rfl)
theorem dX4_buyer_20 : decode cX4_buyer 20 = .ok (.iload_n 3, 1) := dk_29 (dk_at dksX4_buyer_0 20 rfl rfl)
theorem dX4_buyer_21 : decode cX4_buyer 21 = .ok (.invokevirtual 267, 3) := dk_182 1 11 (dk_at dksX4_buyer_0 21 rfl rfl)
theorem dX4_buyer_24 : decode cX4_buyer 24 = .ok (.ifCond .ne 5, 3) := dk_154 0 5 (dk_at dksX4_buyer_1 0 rfl rfl)
theorem dX4_buyer_27 : decode cX4_buyer 27 = .ok (.iconst (-1), 1) := dk_2 (dk_at dksX4_buyer_1 3 rfl rfl)
theorem dX4_buyer_28 : decode cX4_buyer 28 = .ok (.ireturn, 1) := dk_172 (dk_at dksX4_buyer_1 4 rfl rfl)
theorem dX4_buyer_29 : decode cX4_buyer 29 = .ok (.aload_n 0, 1) := dk_42 (dk_at dksX4_buyer_1 5 rfl rfl)
theorem dX4_buyer_30 : decode cX4_buyer 30 = .ok (.invokevirtual 252, 3) := dk_182 0 252 (dk_at dksX4_buyer_1 6 rfl rfl)
theorem dX4_buyer_33 : decode cX4_buyer 33 = .ok (.aload_n 0, 1) := dk_42 (dk_at dksX4_buyer_1 9 rfl rfl)
theorem dX4_buyer_34 : decode cX4_buyer 34 = .ok (.iload_n 1, 1) := dk_27 (dk_at dksX4_buyer_1 10 rfl rfl)
theorem dX4_buyer_35 : decode cX4_buyer 35 = .ok (.putfield 38, 3) := dk_181 0 38 (dk_at dksX4_buyer_1 11 rfl rfl)
theorem dX4_buyer_38 : decode cX4_buyer 38 = .ok (.aload_n 0, 1) := dk_42 (dk_at dksX4_buyer_1 14 rfl rfl)
theorem dX4_buyer_39 : decode cX4_buyer 39 = .ok (.iload_n 2, 1) := dk_28 (dk_at dksX4_buyer_1 15 rfl rfl)
theorem dX4_buyer_40 : decode cX4_buyer 40 = .ok (.putfield 162, 3) := dk_181 0 162 (dk_at dksX4_buyer_1 16 rfl rfl)
theorem dX4_buyer_43 : decode cX4_buyer 43 = .ok (.aload_n 0, 1) := dk_42 (dk_at dksX4_buyer_1 19 rfl rfl)
theorem dX4_buyer_44 : decode cX4_buyer 44 = .ok (.invokevirtual 255, 3) := dk_182 0 255 (dk_at dksX4_buyer_1 20 rfl rfl)
theorem dX4_buyer_47 : decode cX4_buyer 47 = .ok (.aload_n 0, 1) := dk_42 (dk_at dksX4_buyer_1 23 rfl rfl)
theorem dX4_buyer_48 : decode cX4_buyer 48 = .ok (.iload_n 3, 1) := dk_29 (dk_at dksX4_buyer_2 0 rfl rfl)
theorem dX4_buyer_49 : decode cX4_buyer 49 = .ok (.invokevirtual 258, 3) := dk_182 1 2 (dk_at dksX4_buyer_2 1 rfl rfl)
theorem dX4_buyer_52 : decode cX4_buyer 52 = .ok (.ireturn, 1) := dk_172 (dk_at dksX4_buyer_2 4 rfl rfl)
def dkwX4_capFor_0 : List UInt8 := [42, 27, 182, 0, 224, 153, 0, 15, 42, 27, 4, 17, 1, 104, 182, 1, 79, 167, 0, 4, 2, 172]
abbrev dktX4_capFor_0 : List UInt8 := dkwX4_capFor_0 ++ []
theorem dksX4_capFor_0 : cX4_capFor.data.toList.drop 0 = dktX4_capFor_0 := by decide +kernel
theorem dX4_capFor_0 : decode cX4_capFor 0 = .ok (.aload_n 0, 1) := dk_42 (dk_at dksX4_capFor_0 0 rfl rfl)
theorem dX4_capFor_1 : decode cX4_capFor 1 = .ok (.iload_n 1, 1) := dk_27 (dk_at dksX4_capFor_0 1 rfl rfl)
theorem dX4_capFor_2 : decode cX4_capFor 2 = .ok (.invokevirtual 224, 3) := dk_182 0 224 (dk_at dksX4_capFor_0 2 rfl rfl)
theorem dX4_capFor_5 : decode cX4_capFor 5 = .ok (.ifCond .eq 15, 3) := dk_153 0 15 (dk_at dksX4_capFor_0 5 rfl rfl)
theorem dX4_capFor_8 : decode cX4_capFor 8 = .ok (.aload_n 0, 1) := dk_42 (dk_at dksX4_capFor_0 8 rfl rfl)
theorem dX4_capFor_9 : decode cX4_capFor 9 = .ok (.iload_n 1, 1) := dk_27 (dk_at dksX4_capFor_0 9 rfl rfl)
theorem dX4_capFor_10 : decode cX4_capFor 10 = .ok (.iconst 1, 1) := dk_4 (dk_at dksX4_capFor_0 10 rfl rfl)
theorem dX4_capFor_11 : decode cX4_capFor 11 = .ok (.sipush 360, 3) := dk_17 1 104 (dk_at dksX4_capFor_0 11 rfl rfl)
theorem dX4_capFor_14 : decode cX4_capFor 14 = .ok (.invokevirtual 335, 3) := dk_182 1 79 (dk_at dksX4_capFor_0 14 rfl rfl)
theorem dX4_capFor_17 : decode cX4_capFor 17 = .ok (.goto 4, 3) := dk_167 0 4 (dk_at dksX4_capFor_0 17 rfl rfl)
theorem dX4_capFor_20 : decode cX4_capFor 20 = .ok (.iconst (-1), 1) := dk_2 (dk_at dksX4_capFor_0 20 rfl rfl)
theorem dX4_capFor_21 : decode cX4_capFor 21 = .ok (.ireturn, 1) := dk_172 (dk_at dksX4_capFor_0 21 rfl rfl)
def dkwX4_greatestFor_2 : List UInt8 := [153, 0, 10, 21, 6, 54, 4, 167, 0, 9, 21, 6, 4, 100, 54, 5, 167, 255, 214, 21, 4, 172]
abbrev dktX4_greatestFor_2 : List UInt8 := dkwX4_greatestFor_2 ++ []
def dkwX4_greatestFor_1 : List UInt8 := [162, 0, 41, 21, 4, 21, 5, 96, 4, 96, 5, 108, 54, 6, 42, 27, 28, 21, 6, 182, 1, 75]
abbrev dktX4_greatestFor_1 : List UInt8 := dkwX4_greatestFor_1 ++ dktX4_greatestFor_2
def dkwX4_greatestFor_0 : List UInt8 := [42, 27, 28, 3, 182, 1, 75, 154, 0, 6, 16, 254, 172, 3, 54, 4, 29, 54, 5, 21, 4, 21, 5]
abbrev dktX4_greatestFor_0 : List UInt8 := dkwX4_greatestFor_0 ++ dktX4_greatestFor_1
theorem dksX4_greatestFor_0 : cX4_greatestFor.data.toList.drop 0 = dktX4_greatestFor_0 := by decide +kernel
theorem dksX4_greatestFor_1 : cX4_greatestFor.data.toList.drop 23 = dktX4_greatestFor_1 := dk_seg dksX4_greatestFor_0 23 rfl rfl
theorem dksX4_greatestFor_2 : cX4_greatestFor.data.toList.drop 45 = dktX4_greatestFor_2 := dk_seg dksX4_greatestFor_1 22 rfl rfl
theorem dX4_greatestFor_0 : decode cX4_greatestFor 0 = .ok (.aload_n 0, 1) := dk_42 (dk_at dksX4_greatestFor_0 0 rfl rfl)
theorem dX4_greatestFor_1 : decode cX4_greatestFor 1 = .ok (.iload_n 1, 1) := dk_27 (dk_at dksX4_greatestFor_0 1 rfl rfl)
theorem dX4_greatestFor_2 : decode cX4_greatestFor 2 = .ok (.iload_n 2, 1) := dk_28 (dk_at dksX4_greatestFor_0 2 rfl rfl)
theorem dX4_greatestFor_3 : decode cX4_greatestFor 3 = .ok (.iconst 0, 1) := dk_3 (dk_at dksX4_greatestFor_0 3 rfl rfl)
theorem dX4_greatestFor_4 : decode cX4_greatestFor 4 = .ok (.invokevirtual 331, 3) := dk_182 1 75 (dk_at dksX4_greatestFor_0 4 rfl rfl)
theorem dX4_greatestFor_7 : decode cX4_greatestFor 7 = .ok (.ifCond .ne 6, 3) := dk_154 0 6 (dk_at dksX4_greatestFor_0 7 rfl rfl)
theorem dX4_greatestFor_10 : decode cX4_greatestFor 10 = .ok (.bipush (-2), 2) := dk_16 254 (dk_at dksX4_greatestFor_0 10 rfl rfl)
theorem dX4_greatestFor_12 : decode cX4_greatestFor 12 = .ok (.ireturn, 1) := dk_172 (dk_at dksX4_greatestFor_0 12 rfl rfl)
theorem dX4_greatestFor_13 : decode cX4_greatestFor 13 = .ok (.iconst 0, 1) := dk_3 (dk_at dksX4_greatestFor_0 13 rfl rfl)
theorem dX4_greatestFor_14 : decode cX4_greatestFor 14 = .ok (.istore 4, 2) := dk_54 4 (dk_at dksX4_greatestFor_0 14 rfl rfl)
theorem dX4_greatestFor_16 : decode cX4_greatestFor 16 = .ok (.iload_n 3, 1) := dk_29 (dk_at dksX4_greatestFor_0 16 rfl rfl)
theorem dX4_greatestFor_17 : decode cX4_greatestFor 17 = .ok (.istore 5, 2) := dk_54 5 (dk_at dksX4_greatestFor_0 17 rfl rfl)
theorem dX4_greatestFor_19 : decode cX4_greatestFor 19 = .ok (.iload 4, 2) := dk_21 4 (dk_at dksX4_greatestFor_0 19 rfl rfl)
theorem dX4_greatestFor_21 : decode cX4_greatestFor 21 = .ok (.iload 5, 2) := dk_21 5 (dk_at dksX4_greatestFor_0 21 rfl rfl)
theorem dX4_greatestFor_23 : decode cX4_greatestFor 23 = .ok (.if_icmp .ge 41, 3) := dk_162 0 41 (dk_at dksX4_greatestFor_1 0 rfl rfl)
theorem dX4_greatestFor_26 : decode cX4_greatestFor 26 = .ok (.iload 4, 2) := dk_21 4 (dk_at dksX4_greatestFor_1 3 rfl rfl)
theorem dX4_greatestFor_28 : decode cX4_greatestFor 28 = .ok (.iload 5, 2) := dk_21 5 (dk_at dksX4_greatestFor_1 5 rfl rfl)
theorem dX4_greatestFor_30 : decode cX4_greatestFor 30 = .ok (.iadd, 1) := dk_96 (dk_at dksX4_greatestFor_1 7 rfl rfl)
theorem dX4_greatestFor_31 : decode cX4_greatestFor 31 = .ok (.iconst 1, 1) := dk_4 (dk_at dksX4_greatestFor_1 8 rfl rfl)
theorem dX4_greatestFor_32 : decode cX4_greatestFor 32 = .ok (.iadd, 1) := dk_96 (dk_at dksX4_greatestFor_1 9 rfl rfl)
theorem dX4_greatestFor_33 : decode cX4_greatestFor 33 = .ok (.iconst 2, 1) := dk_5 (dk_at dksX4_greatestFor_1 10 rfl rfl)
theorem dX4_greatestFor_34 : decode cX4_greatestFor 34 = .ok (.idiv, 1) := dk_108 (dk_at dksX4_greatestFor_1 11 rfl rfl)
theorem dX4_greatestFor_35 : decode cX4_greatestFor 35 = .ok (.istore 6, 2) := dk_54 6 (dk_at dksX4_greatestFor_1 12 rfl rfl)
theorem dX4_greatestFor_37 : decode cX4_greatestFor 37 = .ok (.aload_n 0, 1) := dk_42 (dk_at dksX4_greatestFor_1 14 rfl rfl)
theorem dX4_greatestFor_38 : decode cX4_greatestFor 38 = .ok (.iload_n 1, 1) := dk_27 (dk_at dksX4_greatestFor_1 15 rfl rfl)
theorem dX4_greatestFor_39 : decode cX4_greatestFor 39 = .ok (.iload_n 2, 1) := dk_28 (dk_at dksX4_greatestFor_1 16 rfl rfl)
theorem dX4_greatestFor_40 : decode cX4_greatestFor 40 = .ok (.iload 6, 2) := dk_21 6 (dk_at dksX4_greatestFor_1 17 rfl rfl)
theorem dX4_greatestFor_42 : decode cX4_greatestFor 42 = .ok (.invokevirtual 331, 3) := dk_182 1 75 (dk_at dksX4_greatestFor_1 19 rfl rfl)
theorem dX4_greatestFor_45 : decode cX4_greatestFor 45 = .ok (.ifCond .eq 10, 3) := dk_153 0 10 (dk_at dksX4_greatestFor_2 0 rfl rfl)
theorem dX4_greatestFor_48 : decode cX4_greatestFor 48 = .ok (.iload 6, 2) := dk_21 6 (dk_at dksX4_greatestFor_2 3 rfl rfl)
theorem dX4_greatestFor_50 : decode cX4_greatestFor 50 = .ok (.istore 4, 2) := dk_54 4 (dk_at dksX4_greatestFor_2 5 rfl rfl)
theorem dX4_greatestFor_52 : decode cX4_greatestFor 52 = .ok (.goto 9, 3) := dk_167 0 9 (dk_at dksX4_greatestFor_2 7 rfl rfl)
theorem dX4_greatestFor_55 : decode cX4_greatestFor 55 = .ok (.iload 6, 2) := dk_21 6 (dk_at dksX4_greatestFor_2 10 rfl rfl)
theorem dX4_greatestFor_57 : decode cX4_greatestFor 57 = .ok (.iconst 1, 1) := dk_4 (dk_at dksX4_greatestFor_2 12 rfl rfl)
theorem dX4_greatestFor_58 : decode cX4_greatestFor 58 = .ok (.isub, 1) := dk_100 (dk_at dksX4_greatestFor_2 13 rfl rfl)
theorem dX4_greatestFor_59 : decode cX4_greatestFor 59 = .ok (.istore 5, 2) := dk_54 5 (dk_at dksX4_greatestFor_2 14 rfl rfl)
theorem dX4_greatestFor_61 : decode cX4_greatestFor 61 = .ok (.goto (-42), 3) := dk_167 255 214 (dk_at dksX4_greatestFor_2 16 rfl rfl)
theorem dX4_greatestFor_64 : decode cX4_greatestFor 64 = .ok (.iload 4, 2) := dk_21 4 (dk_at dksX4_greatestFor_2 19 rfl rfl)
theorem dX4_greatestFor_66 : decode cX4_greatestFor 66 = .ok (.ireturn, 1) := dk_172 (dk_at dksX4_greatestFor_2 21 rfl rfl)
def dkwX4_isSafe_1 : List UInt8 := [42, 28, 153, 0, 7, 3, 167, 0, 4, 29, 181, 0, 159, 42, 182, 1, 65, 172]
abbrev dktX4_isSafe_1 : List UInt8 := dkwX4_isSafe_1 ++ []
def dkwX4_isSafe_0 : List UInt8 := [42, 182, 0, 252, 42, 27, 181, 0, 31, 42, 28, 153, 0, 7, 29, 167, 0, 6, 17, 1, 104, 181, 0, 35]
abbrev dktX4_isSafe_0 : List UInt8 := dkwX4_isSafe_0 ++ dktX4_isSafe_1
theorem dksX4_isSafe_0 : cX4_isSafe.data.toList.drop 0 = dktX4_isSafe_0 := by decide +kernel
theorem dksX4_isSafe_1 : cX4_isSafe.data.toList.drop 24 = dktX4_isSafe_1 := dk_seg dksX4_isSafe_0 24 rfl rfl
theorem dX4_isSafe_0 : decode cX4_isSafe 0 = .ok (.aload_n 0, 1) := dk_42 (dk_at dksX4_isSafe_0 0 rfl rfl)
theorem dX4_isSafe_1 : decode cX4_isSafe 1 = .ok (.invokevirtual 252, 3) := dk_182 0 252 (dk_at dksX4_isSafe_0 1 rfl rfl)
theorem dX4_isSafe_4 : decode cX4_isSafe 4 = .ok (.aload_n 0, 1) := dk_42 (dk_at dksX4_isSafe_0 4 rfl rfl)
theorem dX4_isSafe_5 : decode cX4_isSafe 5 = .ok (.iload_n 1, 1) := dk_27 (dk_at dksX4_isSafe_0 5 rfl rfl)
theorem dX4_isSafe_6 : decode cX4_isSafe 6 = .ok (.putfield 31, 3) := dk_181 0 31 (dk_at dksX4_isSafe_0 6 rfl rfl)
theorem dX4_isSafe_9 : decode cX4_isSafe 9 = .ok (.aload_n 0, 1) := dk_42 (dk_at dksX4_isSafe_0 9 rfl rfl)
theorem dX4_isSafe_10 : decode cX4_isSafe 10 = .ok (.iload_n 2, 1) := dk_28 (dk_at dksX4_isSafe_0 10 rfl rfl)
theorem dX4_isSafe_11 : decode cX4_isSafe 11 = .ok (.ifCond .eq 7, 3) := dk_153 0 7 (dk_at dksX4_isSafe_0 11 rfl rfl)
theorem dX4_isSafe_14 : decode cX4_isSafe 14 = .ok (.iload_n 3, 1) := dk_29 (dk_at dksX4_isSafe_0 14 rfl rfl)
theorem dX4_isSafe_15 : decode cX4_isSafe 15 = .ok (.goto 6, 3) := dk_167 0 6 (dk_at dksX4_isSafe_0 15 rfl rfl)
theorem dX4_isSafe_18 : decode cX4_isSafe 18 = .ok (.sipush 360, 3) := dk_17 1 104 (dk_at dksX4_isSafe_0 18 rfl rfl)
theorem dX4_isSafe_21 : decode cX4_isSafe 21 = .ok (.putfield 35, 3) := dk_181 0 35 (dk_at dksX4_isSafe_0 21 rfl rfl)
theorem dX4_isSafe_24 : decode cX4_isSafe 24 = .ok (.aload_n 0, 1) := dk_42 (dk_at dksX4_isSafe_1 0 rfl rfl)
theorem dX4_isSafe_25 : decode cX4_isSafe 25 = .ok (.iload_n 2, 1) := dk_28 (dk_at dksX4_isSafe_1 1 rfl rfl)
theorem dX4_isSafe_26 : decode cX4_isSafe 26 = .ok (.ifCond .eq 7, 3) := dk_153 0 7 (dk_at dksX4_isSafe_1 2 rfl rfl)
theorem dX4_isSafe_29 : decode cX4_isSafe 29 = .ok (.iconst 0, 1) := dk_3 (dk_at dksX4_isSafe_1 5 rfl rfl)
theorem dX4_isSafe_30 : decode cX4_isSafe 30 = .ok (.goto 4, 3) := dk_167 0 4 (dk_at dksX4_isSafe_1 6 rfl rfl)
theorem dX4_isSafe_33 : decode cX4_isSafe 33 = .ok (.iload_n 3, 1) := dk_29 (dk_at dksX4_isSafe_1 9 rfl rfl)
theorem dX4_isSafe_34 : decode cX4_isSafe 34 = .ok (.putfield 159, 3) := dk_181 0 159 (dk_at dksX4_isSafe_1 10 rfl rfl)
theorem dX4_isSafe_37 : decode cX4_isSafe 37 = .ok (.aload_n 0, 1) := dk_42 (dk_at dksX4_isSafe_1 13 rfl rfl)
theorem dX4_isSafe_38 : decode cX4_isSafe 38 = .ok (.invokevirtual 321, 3) := dk_182 1 65 (dk_at dksX4_isSafe_1 14 rfl rfl)
theorem dX4_isSafe_41 : decode cX4_isSafe 41 = .ok (.ireturn, 1) := dk_172 (dk_at dksX4_isSafe_1 17 rfl rfl)
def dkwX4_shockFor_0 : List UInt8 := [42, 27, 182, 0, 224, 153, 0, 15, 42, 27, 3, 17, 0, 200, 182, 1, 79, 167, 0, 4, 2, 172]
abbrev dktX4_shockFor_0 : List UInt8 := dkwX4_shockFor_0 ++ []
theorem dksX4_shockFor_0 : cX4_shockFor.data.toList.drop 0 = dktX4_shockFor_0 := by decide +kernel
theorem dX4_shockFor_0 : decode cX4_shockFor 0 = .ok (.aload_n 0, 1) := dk_42 (dk_at dksX4_shockFor_0 0 rfl rfl)
theorem dX4_shockFor_1 : decode cX4_shockFor 1 = .ok (.iload_n 1, 1) := dk_27 (dk_at dksX4_shockFor_0 1 rfl rfl)
theorem dX4_shockFor_2 : decode cX4_shockFor 2 = .ok (.invokevirtual 224, 3) := dk_182 0 224 (dk_at dksX4_shockFor_0 2 rfl rfl)
theorem dX4_shockFor_5 : decode cX4_shockFor 5 = .ok (.ifCond .eq 15, 3) := dk_153 0 15 (dk_at dksX4_shockFor_0 5 rfl rfl)
theorem dX4_shockFor_8 : decode cX4_shockFor 8 = .ok (.aload_n 0, 1) := dk_42 (dk_at dksX4_shockFor_0 8 rfl rfl)
theorem dX4_shockFor_9 : decode cX4_shockFor 9 = .ok (.iload_n 1, 1) := dk_27 (dk_at dksX4_shockFor_0 9 rfl rfl)
theorem dX4_shockFor_10 : decode cX4_shockFor 10 = .ok (.iconst 0, 1) := dk_3 (dk_at dksX4_shockFor_0 10 rfl rfl)
theorem dX4_shockFor_11 : decode cX4_shockFor 11 = .ok (.sipush 200, 3) := dk_17 0 200 (dk_at dksX4_shockFor_0 11 rfl rfl)
theorem dX4_shockFor_14 : decode cX4_shockFor 14 = .ok (.invokevirtual 335, 3) := dk_182 1 79 (dk_at dksX4_shockFor_0 14 rfl rfl)
theorem dX4_shockFor_17 : decode cX4_shockFor 17 = .ok (.goto 4, 3) := dk_167 0 4 (dk_at dksX4_shockFor_0 17 rfl rfl)
theorem dX4_shockFor_20 : decode cX4_shockFor 20 = .ok (.iconst (-1), 1) := dk_2 (dk_at dksX4_shockFor_0 20 rfl rfl)
theorem dX4_shockFor_21 : decode cX4_shockFor 21 = .ok (.ireturn, 1) := dk_172 (dk_at dksX4_shockFor_0 21 rfl rfl)
def dkwX4_domino_1 : List UInt8 := [28, 182, 1, 2, 172]
abbrev dktX4_domino_1 : List UInt8 := dkwX4_domino_1 ++ []
def dkwX4_domino_0 : List UInt8 := [42, 27, 182, 0, 237, 153, 0, 11, 42, 28, 182, 1, 11, 154, 0, 5, 2, 172, 42, 27, 182, 1, 83, 42]
abbrev dktX4_domino_0 : List UInt8 := dkwX4_domino_0 ++ dktX4_domino_1
theorem dksX4_domino_0 : cX4_domino.data.toList.drop 0 = dktX4_domino_0 := by decide +kernel
theorem dksX4_domino_1 : cX4_domino.data.toList.drop 24 = dktX4_domino_1 := dk_seg dksX4_domino_0 24 rfl rfl
theorem dX4_domino_0 : decode cX4_domino 0 = .ok (.aload_n 0, 1) := dk_42 (dk_at dksX4_domino_0 0 rfl rfl)
theorem dX4_domino_1 : decode cX4_domino 1 = .ok (.iload_n 1, 1) := dk_27 (dk_at dksX4_domino_0 1 rfl rfl)
theorem dX4_domino_2 : decode cX4_domino 2 = .ok (.invokevirtual 237, 3) := dk_182 0 237 (dk_at dksX4_domino_0 2 rfl rfl)
theorem dX4_domino_5 : decode cX4_domino 5 = .ok (.ifCond .eq 11, 3) := dk_153 0 11 (dk_at dksX4_domino_0 5 rfl rfl)
theorem dX4_domino_8 : decode cX4_domino 8 = .ok (.aload_n 0, 1) := dk_42 (dk_at dksX4_domino_0 8 rfl rfl)
theorem dX4_domino_9 : decode cX4_domino 9 = .ok (.iload_n 2, 1) := dk_28 (dk_at dksX4_domino_0 9 rfl rfl)
theorem dX4_domino_10 : decode cX4_domino 10 = .ok (.invokevirtual 267, 3) := dk_182 1 11 (dk_at dksX4_domino_0 10 rfl rfl)
theorem dX4_domino_13 : decode cX4_domino 13 = .ok (.ifCond .ne 5, 3) := dk_154 0 5 (dk_at dksX4_domino_0 13 rfl rfl)
theorem dX4_domino_16 : decode cX4_domino 16 = .ok (.iconst (-1), 1) := dk_2 (dk_at dksX4_domino_0 16 rfl rfl)
theorem dX4_domino_17 : decode cX4_domino 17 = .ok (.ireturn, 1) := dk_172 (dk_at dksX4_domino_0 17 rfl rfl)
theorem dX4_domino_18 : decode cX4_domino 18 = .ok (.aload_n 0, 1) := dk_42 (dk_at dksX4_domino_0 18 rfl rfl)
theorem dX4_domino_19 : decode cX4_domino 19 = .ok (.iload_n 1, 1) := dk_27 (dk_at dksX4_domino_0 19 rfl rfl)
theorem dX4_domino_20 : decode cX4_domino 20 = .ok (.invokevirtual 339, 3) := dk_182 1 83 (dk_at dksX4_domino_0 20 rfl rfl)
theorem dX4_domino_23 : decode cX4_domino 23 = .ok (.aload_n 0, 1) := dk_42 (dk_at dksX4_domino_0 23 rfl rfl)
theorem dX4_domino_24 : decode cX4_domino 24 = .ok (.iload_n 2, 1) := dk_28 (dk_at dksX4_domino_1 0 rfl rfl)
theorem dX4_domino_25 : decode cX4_domino 25 = .ok (.invokevirtual 258, 3) := dk_182 1 2 (dk_at dksX4_domino_1 1 rfl rfl)
theorem dX4_domino_28 : decode cX4_domino 28 = .ok (.ireturn, 1) := dk_172 (dk_at dksX4_domino_1 4 rfl rfl)
def dkwX4_leastWith_0 : List UInt8 := [42, 182, 0, 252, 42, 4, 27, 120, 181, 0, 165, 42, 182, 0, 255, 177]
abbrev dktX4_leastWith_0 : List UInt8 := dkwX4_leastWith_0 ++ []
theorem dksX4_leastWith_0 : cX4_leastWith.data.toList.drop 0 = dktX4_leastWith_0 := by decide +kernel
theorem dX4_leastWith_0 : decode cX4_leastWith 0 = .ok (.aload_n 0, 1) := dk_42 (dk_at dksX4_leastWith_0 0 rfl rfl)
theorem dX4_leastWith_1 : decode cX4_leastWith 1 = .ok (.invokevirtual 252, 3) := dk_182 0 252 (dk_at dksX4_leastWith_0 1 rfl rfl)
theorem dX4_leastWith_4 : decode cX4_leastWith 4 = .ok (.aload_n 0, 1) := dk_42 (dk_at dksX4_leastWith_0 4 rfl rfl)
theorem dX4_leastWith_5 : decode cX4_leastWith 5 = .ok (.iconst 1, 1) := dk_4 (dk_at dksX4_leastWith_0 5 rfl rfl)
theorem dX4_leastWith_6 : decode cX4_leastWith 6 = .ok (.iload_n 1, 1) := dk_27 (dk_at dksX4_leastWith_0 6 rfl rfl)
theorem dX4_leastWith_7 : decode cX4_leastWith 7 = .ok (.ishl, 1) := dk_120 (dk_at dksX4_leastWith_0 7 rfl rfl)
theorem dX4_leastWith_8 : decode cX4_leastWith 8 = .ok (.putfield 165, 3) := dk_181 0 165 (dk_at dksX4_leastWith_0 8 rfl rfl)
theorem dX4_leastWith_11 : decode cX4_leastWith 11 = .ok (.aload_n 0, 1) := dk_42 (dk_at dksX4_leastWith_0 11 rfl rfl)
theorem dX4_leastWith_12 : decode cX4_leastWith 12 = .ok (.invokevirtual 255, 3) := dk_182 0 255 (dk_at dksX4_leastWith_0 12 rfl rfl)
theorem dX4_leastWith_15 : decode cX4_leastWith 15 = .ok (.return_, 1) := dk_177 (dk_at dksX4_leastWith_0 15 rfl rfl)
def dkwX4_keystone_2 : List UInt8 := [167, 255, 217, 27, 172]
abbrev dktX4_keystone_2 : List UInt8 := dkwX4_keystone_2 ++ []
def dkwX4_keystone_1 : List UInt8 := [180, 0, 184, 184, 0, 231, 28, 164, 0, 13, 29, 60, 42, 180, 0, 184, 184, 0, 231, 61, 132, 3, 1]
abbrev dktX4_keystone_1 : List UInt8 := dkwX4_keystone_1 ++ dktX4_keystone_2
def dkwX4_keystone_0 : List UInt8 := [16, 254, 60, 3, 61, 3, 62, 29, 42, 180, 0, 7, 4, 46, 162, 0, 35, 42, 29, 182, 1, 83, 42]
abbrev dktX4_keystone_0 : List UInt8 := dkwX4_keystone_0 ++ dktX4_keystone_1
theorem dksX4_keystone_0 : cX4_keystone.data.toList.drop 0 = dktX4_keystone_0 := by decide +kernel
theorem dksX4_keystone_1 : cX4_keystone.data.toList.drop 23 = dktX4_keystone_1 := dk_seg dksX4_keystone_0 23 rfl rfl
theorem dksX4_keystone_2 : cX4_keystone.data.toList.drop 46 = dktX4_keystone_2 := dk_seg dksX4_keystone_1 23 rfl rfl
theorem dX4_keystone_0 : decode cX4_keystone 0 = .ok (.bipush (-2), 2) := dk_16 254 (dk_at dksX4_keystone_0 0 rfl rfl)
theorem dX4_keystone_2 : decode cX4_keystone 2 = .ok (.istore_n 1, 1) := dk_60 (dk_at dksX4_keystone_0 2 rfl rfl)
theorem dX4_keystone_3 : decode cX4_keystone 3 = .ok (.iconst 0, 1) := dk_3 (dk_at dksX4_keystone_0 3 rfl rfl)
theorem dX4_keystone_4 : decode cX4_keystone 4 = .ok (.istore_n 2, 1) := dk_61 (dk_at dksX4_keystone_0 4 rfl rfl)
theorem dX4_keystone_5 : decode cX4_keystone 5 = .ok (.iconst 0, 1) := dk_3 (dk_at dksX4_keystone_0 5 rfl rfl)
theorem dX4_keystone_6 : decode cX4_keystone 6 = .ok (.istore_n 3, 1) := dk_62 (dk_at dksX4_keystone_0 6 rfl rfl)
theorem dX4_keystone_7 : decode cX4_keystone 7 = .ok (.iload_n 3, 1) := dk_29 (dk_at dksX4_keystone_0 7 rfl rfl)
theorem dX4_keystone_8 : decode cX4_keystone 8 = .ok (.aload_n 0, 1) := dk_42 (dk_at dksX4_keystone_0 8 rfl rfl)
theorem dX4_keystone_9 : decode cX4_keystone 9 = .ok (.getfield 7, 3) := dk_180 0 7 (dk_at dksX4_keystone_0 9 rfl rfl)
theorem dX4_keystone_12 : decode cX4_keystone 12 = .ok (.iconst 1, 1) := dk_4 (dk_at dksX4_keystone_0 12 rfl rfl)
theorem dX4_keystone_13 : decode cX4_keystone 13 = .ok (.iaload, 1) := dk_46 (dk_at dksX4_keystone_0 13 rfl rfl)
theorem dX4_keystone_14 : decode cX4_keystone 14 = .ok (.if_icmp .ge 35, 3) := dk_162 0 35 (dk_at dksX4_keystone_0 14 rfl rfl)
theorem dX4_keystone_17 : decode cX4_keystone 17 = .ok (.aload_n 0, 1) := dk_42 (dk_at dksX4_keystone_0 17 rfl rfl)
theorem dX4_keystone_18 : decode cX4_keystone 18 = .ok (.iload_n 3, 1) := dk_29 (dk_at dksX4_keystone_0 18 rfl rfl)
theorem dX4_keystone_19 : decode cX4_keystone 19 = .ok (.invokevirtual 339, 3) := dk_182 1 83 (dk_at dksX4_keystone_0 19 rfl rfl)
theorem dX4_keystone_22 : decode cX4_keystone 22 = .ok (.aload_n 0, 1) := dk_42 (dk_at dksX4_keystone_0 22 rfl rfl)
theorem dX4_keystone_23 : decode cX4_keystone 23 = .ok (.getfield 184, 3) := dk_180 0 184 (dk_at dksX4_keystone_1 0 rfl rfl)
theorem dX4_keystone_26 : decode cX4_keystone 26 = .ok (.invokestatic 231, 3) := dk_184 0 231 (dk_at dksX4_keystone_1 3 rfl rfl)
theorem dX4_keystone_29 : decode cX4_keystone 29 = .ok (.iload_n 2, 1) := dk_28 (dk_at dksX4_keystone_1 6 rfl rfl)
theorem dX4_keystone_30 : decode cX4_keystone 30 = .ok (.if_icmp .le 13, 3) := dk_164 0 13 (dk_at dksX4_keystone_1 7 rfl rfl)
theorem dX4_keystone_33 : decode cX4_keystone 33 = .ok (.iload_n 3, 1) := dk_29 (dk_at dksX4_keystone_1 10 rfl rfl)
theorem dX4_keystone_34 : decode cX4_keystone 34 = .ok (.istore_n 1, 1) := dk_60 (dk_at dksX4_keystone_1 11 rfl rfl)
theorem dX4_keystone_35 : decode cX4_keystone 35 = .ok (.aload_n 0, 1) := dk_42 (dk_at dksX4_keystone_1 12 rfl rfl)
theorem dX4_keystone_36 : decode cX4_keystone 36 = .ok (.getfield 184, 3) := dk_180 0 184 (dk_at dksX4_keystone_1 13 rfl rfl)
theorem dX4_keystone_39 : decode cX4_keystone 39 = .ok (.invokestatic 231, 3) := dk_184 0 231 (dk_at dksX4_keystone_1 16 rfl rfl)
theorem dX4_keystone_42 : decode cX4_keystone 42 = .ok (.istore_n 2, 1) := dk_61 (dk_at dksX4_keystone_1 19 rfl rfl)
theorem dX4_keystone_43 : decode cX4_keystone 43 = .ok (.iinc 3 1, 3) := dk_132 3 1 (dk_at dksX4_keystone_1 20 rfl rfl)
theorem dX4_keystone_46 : decode cX4_keystone 46 = .ok (.goto (-39), 3) := dk_167 255 217 (dk_at dksX4_keystone_2 0 rfl rfl)
theorem dX4_keystone_49 : decode cX4_keystone 49 = .ok (.iload_n 1, 1) := dk_27 (dk_at dksX4_keystone_2 3 rfl rfl)
theorem dX4_keystone_50 : decode cX4_keystone 50 = .ok (.ireturn, 1) := dk_172 (dk_at dksX4_keystone_2 4 rfl rfl)
def dkwX4_pulls_1 : List UInt8 := [27, 182, 1, 83, 42, 180, 0, 184, 28, 2, 130, 126, 4, 27, 120, 2, 130, 126, 172]
abbrev dktX4_pulls_1 : List UInt8 := dkwX4_pulls_1 ++ []
def dkwX4_pulls_0 : List UInt8 := [42, 27, 182, 0, 237, 154, 0, 5, 2, 172, 42, 182, 0, 252, 42, 182, 0, 255, 42, 180, 0, 184, 61, 42]
abbrev dktX4_pulls_0 : List UInt8 := dkwX4_pulls_0 ++ dktX4_pulls_1
theorem dksX4_pulls_0 : cX4_pulls.data.toList.drop 0 = dktX4_pulls_0 := by decide +kernel
theorem dksX4_pulls_1 : cX4_pulls.data.toList.drop 24 = dktX4_pulls_1 := dk_seg dksX4_pulls_0 24 rfl rfl
theorem dX4_pulls_0 : decode cX4_pulls 0 = .ok (.aload_n 0, 1) := dk_42 (dk_at dksX4_pulls_0 0 rfl rfl)
theorem dX4_pulls_1 : decode cX4_pulls 1 = .ok (.iload_n 1, 1) := dk_27 (dk_at dksX4_pulls_0 1 rfl rfl)
theorem dX4_pulls_2 : decode cX4_pulls 2 = .ok (.invokevirtual 237, 3) := dk_182 0 237 (dk_at dksX4_pulls_0 2 rfl rfl)
theorem dX4_pulls_5 : decode cX4_pulls 5 = .ok (.ifCond .ne 5, 3) := dk_154 0 5 (dk_at dksX4_pulls_0 5 rfl rfl)
theorem dX4_pulls_8 : decode cX4_pulls 8 = .ok (.iconst (-1), 1) := dk_2 (dk_at dksX4_pulls_0 8 rfl rfl)
theorem dX4_pulls_9 : decode cX4_pulls 9 = .ok (.ireturn, 1) := dk_172 (dk_at dksX4_pulls_0 9 rfl rfl)
theorem dX4_pulls_10 : decode cX4_pulls 10 = .ok (.aload_n 0, 1) := dk_42 (dk_at dksX4_pulls_0 10 rfl rfl)
theorem dX4_pulls_11 : decode cX4_pulls 11 = .ok (.invokevirtual 252, 3) := dk_182 0 252 (dk_at dksX4_pulls_0 11 rfl rfl)
theorem dX4_pulls_14 : decode cX4_pulls 14 = .ok (.aload_n 0, 1) := dk_42 (dk_at dksX4_pulls_0 14 rfl rfl)
theorem dX4_pulls_15 : decode cX4_pulls 15 = .ok (.invokevirtual 255, 3) := dk_182 0 255 (dk_at dksX4_pulls_0 15 rfl rfl)
theorem dX4_pulls_18 : decode cX4_pulls 18 = .ok (.aload_n 0, 1) := dk_42 (dk_at dksX4_pulls_0 18 rfl rfl)
theorem dX4_pulls_19 : decode cX4_pulls 19 = .ok (.getfield 184, 3) := dk_180 0 184 (dk_at dksX4_pulls_0 19 rfl rfl)
theorem dX4_pulls_22 : decode cX4_pulls 22 = .ok (.istore_n 2, 1) := dk_61 (dk_at dksX4_pulls_0 22 rfl rfl)
theorem dX4_pulls_23 : decode cX4_pulls 23 = .ok (.aload_n 0, 1) := dk_42 (dk_at dksX4_pulls_0 23 rfl rfl)
theorem dX4_pulls_24 : decode cX4_pulls 24 = .ok (.iload_n 1, 1) := dk_27 (dk_at dksX4_pulls_1 0 rfl rfl)
theorem dX4_pulls_25 : decode cX4_pulls 25 = .ok (.invokevirtual 339, 3) := dk_182 1 83 (dk_at dksX4_pulls_1 1 rfl rfl)
theorem dX4_pulls_28 : decode cX4_pulls 28 = .ok (.aload_n 0, 1) := dk_42 (dk_at dksX4_pulls_1 4 rfl rfl)
theorem dX4_pulls_29 : decode cX4_pulls 29 = .ok (.getfield 184, 3) := dk_180 0 184 (dk_at dksX4_pulls_1 5 rfl rfl)
theorem dX4_pulls_32 : decode cX4_pulls 32 = .ok (.iload_n 2, 1) := dk_28 (dk_at dksX4_pulls_1 8 rfl rfl)
theorem dX4_pulls_33 : decode cX4_pulls 33 = .ok (.iconst (-1), 1) := dk_2 (dk_at dksX4_pulls_1 9 rfl rfl)
theorem dX4_pulls_34 : decode cX4_pulls 34 = .ok (.ixor, 1) := dk_130 (dk_at dksX4_pulls_1 10 rfl rfl)
theorem dX4_pulls_35 : decode cX4_pulls 35 = .ok (.iand, 1) := dk_126 (dk_at dksX4_pulls_1 11 rfl rfl)
theorem dX4_pulls_36 : decode cX4_pulls 36 = .ok (.iconst 1, 1) := dk_4 (dk_at dksX4_pulls_1 12 rfl rfl)
theorem dX4_pulls_37 : decode cX4_pulls 37 = .ok (.iload_n 1, 1) := dk_27 (dk_at dksX4_pulls_1 13 rfl rfl)
theorem dX4_pulls_38 : decode cX4_pulls 38 = .ok (.ishl, 1) := dk_120 (dk_at dksX4_pulls_1 14 rfl rfl)
theorem dX4_pulls_39 : decode cX4_pulls 39 = .ok (.iconst (-1), 1) := dk_2 (dk_at dksX4_pulls_1 15 rfl rfl)
theorem dX4_pulls_40 : decode cX4_pulls 40 = .ok (.ixor, 1) := dk_130 (dk_at dksX4_pulls_1 16 rfl rfl)
theorem dX4_pulls_41 : decode cX4_pulls 41 = .ok (.iand, 1) := dk_126 (dk_at dksX4_pulls_1 17 rfl rfl)
theorem dX4_pulls_42 : decode cX4_pulls 42 = .ok (.ireturn, 1) := dk_172 (dk_at dksX4_pulls_1 18 rfl rfl)
def dkwX4_room_3 : List UInt8 := [100, 62, 167, 255, 215, 28, 172]
abbrev dktX4_room_3 : List UInt8 := dkwX4_room_3 ++ []
def dkwX4_room_2 : List UInt8 := [180, 0, 28, 27, 21, 4, 116, 79, 42, 182, 1, 65, 153, 0, 9, 21, 4, 61, 167, 0, 8, 21, 4, 4]
abbrev dktX4_room_2 : List UInt8 := dkwX4_room_2 ++ dktX4_room_3
def dkwX4_room_1 : List UInt8 := [3, 61, 42, 27, 3, 182, 0, 175, 62, 28, 29, 162, 0, 42, 28, 29, 96, 4, 96, 5, 108, 54, 4, 42]
abbrev dktX4_room_1 : List UInt8 := dkwX4_room_1 ++ dktX4_room_2
def dkwX4_room_0 : List UInt8 := [42, 27, 182, 0, 237, 154, 0, 5, 2, 172, 42, 182, 0, 252, 42, 182, 1, 65, 154, 0, 6, 16, 254, 172]
abbrev dktX4_room_0 : List UInt8 := dkwX4_room_0 ++ dktX4_room_1
theorem dksX4_room_0 : cX4_room.data.toList.drop 0 = dktX4_room_0 := by decide +kernel
theorem dksX4_room_1 : cX4_room.data.toList.drop 24 = dktX4_room_1 := dk_seg dksX4_room_0 24 rfl rfl
theorem dksX4_room_2 : cX4_room.data.toList.drop 48 = dktX4_room_2 := dk_seg dksX4_room_1 24 rfl rfl
theorem dksX4_room_3 : cX4_room.data.toList.drop 72 = dktX4_room_3 := dk_seg dksX4_room_2 24 rfl rfl
theorem dX4_room_0 : decode cX4_room 0 = .ok (.aload_n 0, 1) := dk_42 (dk_at dksX4_room_0 0 rfl rfl)
theorem dX4_room_1 : decode cX4_room 1 = .ok (.iload_n 1, 1) := dk_27 (dk_at dksX4_room_0 1 rfl rfl)
theorem dX4_room_2 : decode cX4_room 2 = .ok (.invokevirtual 237, 3) := dk_182 0 237 (dk_at dksX4_room_0 2 rfl rfl)
theorem dX4_room_5 : decode cX4_room 5 = .ok (.ifCond .ne 5, 3) := dk_154 0 5 (dk_at dksX4_room_0 5 rfl rfl)
theorem dX4_room_8 : decode cX4_room 8 = .ok (.iconst (-1), 1) := dk_2 (dk_at dksX4_room_0 8 rfl rfl)
theorem dX4_room_9 : decode cX4_room 9 = .ok (.ireturn, 1) := dk_172 (dk_at dksX4_room_0 9 rfl rfl)
theorem dX4_room_10 : decode cX4_room 10 = .ok (.aload_n 0, 1) := dk_42 (dk_at dksX4_room_0 10 rfl rfl)
theorem dX4_room_11 : decode cX4_room 11 = .ok (.invokevirtual 252, 3) := dk_182 0 252 (dk_at dksX4_room_0 11 rfl rfl)
theorem dX4_room_14 : decode cX4_room 14 = .ok (.aload_n 0, 1) := dk_42 (dk_at dksX4_room_0 14 rfl rfl)
theorem dX4_room_15 : decode cX4_room 15 = .ok (.invokevirtual 321, 3) := dk_182 1 65 (dk_at dksX4_room_0 15 rfl rfl)
theorem dX4_room_18 : decode cX4_room 18 = .ok (.ifCond .ne 6, 3) := dk_154 0 6 (dk_at dksX4_room_0 18 rfl rfl)
theorem dX4_room_21 : decode cX4_room 21 = .ok (.bipush (-2), 2) := dk_16 254 (dk_at dksX4_room_0 21 rfl rfl)
theorem dX4_room_23 : decode cX4_room 23 = .ok (.ireturn, 1) := dk_172 (dk_at dksX4_room_0 23 rfl rfl)
theorem dX4_room_24 : decode cX4_room 24 = .ok (.iconst 0, 1) := dk_3 (dk_at dksX4_room_1 0 rfl rfl)
theorem dX4_room_25 : decode cX4_room 25 = .ok (.istore_n 2, 1) := dk_61 (dk_at dksX4_room_1 1 rfl rfl)
theorem dX4_room_26 : decode cX4_room 26 = .ok (.aload_n 0, 1) := dk_42 (dk_at dksX4_room_1 2 rfl rfl)
theorem dX4_room_27 : decode cX4_room 27 = .ok (.iload_n 1, 1) := dk_27 (dk_at dksX4_room_1 3 rfl rfl)
theorem dX4_room_28 : decode cX4_room 28 = .ok (.iconst 0, 1) := dk_3 (dk_at dksX4_room_1 4 rfl rfl)
theorem dX4_room_29 : decode cX4_room 29 = .ok (.invokevirtual 175, 3) := dk_182 0 175 (dk_at dksX4_room_1 5 rfl rfl)
theorem dX4_room_32 : decode cX4_room 32 = .ok (.istore_n 3, 1) := dk_62 (dk_at dksX4_room_1 8 rfl rfl)
theorem dX4_room_33 : decode cX4_room 33 = .ok (.iload_n 2, 1) := dk_28 (dk_at dksX4_room_1 9 rfl rfl)
theorem dX4_room_34 : decode cX4_room 34 = .ok (.iload_n 3, 1) := dk_29 (dk_at dksX4_room_1 10 rfl rfl)
theorem dX4_room_35 : decode cX4_room 35 = .ok (.if_icmp .ge 42, 3) := dk_162 0 42 (dk_at dksX4_room_1 11 rfl rfl)
theorem dX4_room_38 : decode cX4_room 38 = .ok (.iload_n 2, 1) := dk_28 (dk_at dksX4_room_1 14 rfl rfl)
theorem dX4_room_39 : decode cX4_room 39 = .ok (.iload_n 3, 1) := dk_29 (dk_at dksX4_room_1 15 rfl rfl)
theorem dX4_room_40 : decode cX4_room 40 = .ok (.iadd, 1) := dk_96 (dk_at dksX4_room_1 16 rfl rfl)
theorem dX4_room_41 : decode cX4_room 41 = .ok (.iconst 1, 1) := dk_4 (dk_at dksX4_room_1 17 rfl rfl)
theorem dX4_room_42 : decode cX4_room 42 = .ok (.iadd, 1) := dk_96 (dk_at dksX4_room_1 18 rfl rfl)
theorem dX4_room_43 : decode cX4_room 43 = .ok (.iconst 2, 1) := dk_5 (dk_at dksX4_room_1 19 rfl rfl)
theorem dX4_room_44 : decode cX4_room 44 = .ok (.idiv, 1) := dk_108 (dk_at dksX4_room_1 20 rfl rfl)
theorem dX4_room_45 : decode cX4_room 45 = .ok (.istore 4, 2) := dk_54 4 (dk_at dksX4_room_1 21 rfl rfl)
theorem dX4_room_47 : decode cX4_room 47 = .ok (.aload_n 0, 1) := dk_42 (dk_at dksX4_room_1 23 rfl rfl)
theorem dX4_room_48 : decode cX4_room 48 = .ok (.getfield 28, 3) := dk_180 0 28 (dk_at dksX4_room_2 0 rfl rfl)
theorem dX4_room_51 : decode cX4_room 51 = .ok (.iload_n 1, 1) := dk_27 (dk_at dksX4_room_2 3 rfl rfl)
theorem dX4_room_52 : decode cX4_room 52 = .ok (.iload 4, 2) := dk_21 4 (dk_at dksX4_room_2 4 rfl rfl)
theorem dX4_room_54 : decode cX4_room 54 = .ok (.ineg, 1) := dk_116 (dk_at dksX4_room_2 6 rfl rfl)
theorem dX4_room_55 : decode cX4_room 55 = .ok (.iastore, 1) := dk_79 (dk_at dksX4_room_2 7 rfl rfl)
theorem dX4_room_56 : decode cX4_room 56 = .ok (.aload_n 0, 1) := dk_42 (dk_at dksX4_room_2 8 rfl rfl)
theorem dX4_room_57 : decode cX4_room 57 = .ok (.invokevirtual 321, 3) := dk_182 1 65 (dk_at dksX4_room_2 9 rfl rfl)
theorem dX4_room_60 : decode cX4_room 60 = .ok (.ifCond .eq 9, 3) := dk_153 0 9 (dk_at dksX4_room_2 12 rfl rfl)
theorem dX4_room_63 : decode cX4_room 63 = .ok (.iload 4, 2) := dk_21 4 (dk_at dksX4_room_2 15 rfl rfl)
theorem dX4_room_65 : decode cX4_room 65 = .ok (.istore_n 2, 1) := dk_61 (dk_at dksX4_room_2 17 rfl rfl)
theorem dX4_room_66 : decode cX4_room 66 = .ok (.goto 8, 3) := dk_167 0 8 (dk_at dksX4_room_2 18 rfl rfl)
theorem dX4_room_69 : decode cX4_room 69 = .ok (.iload 4, 2) := dk_21 4 (dk_at dksX4_room_2 21 rfl rfl)
theorem dX4_room_71 : decode cX4_room 71 = .ok (.iconst 1, 1) := dk_4 (dk_at dksX4_room_2 23 rfl rfl)
theorem dX4_room_72 : decode cX4_room 72 = .ok (.isub, 1) := dk_100 (dk_at dksX4_room_3 0 rfl rfl)
theorem dX4_room_73 : decode cX4_room 73 = .ok (.istore_n 3, 1) := dk_62 (dk_at dksX4_room_3 1 rfl rfl)
theorem dX4_room_74 : decode cX4_room 74 = .ok (.goto (-41), 3) := dk_167 255 215 (dk_at dksX4_room_3 2 rfl rfl)
theorem dX4_room_77 : decode cX4_room 77 = .ok (.iload_n 2, 1) := dk_28 (dk_at dksX4_room_3 5 rfl rfl)
theorem dX4_room_78 : decode cX4_room 78 = .ok (.ireturn, 1) := dk_172 (dk_at dksX4_room_3 6 rfl rfl)
def dkwX4_stress_1 : List UInt8 := [42, 27, 181, 0, 41, 42, 182, 0, 255, 42, 28, 182, 1, 2, 172]
abbrev dktX4_stress_1 : List UInt8 := dkwX4_stress_1 ++ []
def dkwX4_stress_0 : List UInt8 := [27, 3, 16, 100, 184, 0, 68, 153, 0, 11, 42, 28, 182, 1, 11, 154, 0, 5, 2, 172, 42, 182, 0, 252]
abbrev dktX4_stress_0 : List UInt8 := dkwX4_stress_0 ++ dktX4_stress_1
theorem dksX4_stress_0 : cX4_stress.data.toList.drop 0 = dktX4_stress_0 := by decide +kernel
theorem dksX4_stress_1 : cX4_stress.data.toList.drop 24 = dktX4_stress_1 := dk_seg dksX4_stress_0 24 rfl rfl
theorem dX4_stress_0 : decode cX4_stress 0 = .ok (.iload_n 1, 1) := dk_27 (dk_at dksX4_stress_0 0 rfl rfl)
theorem dX4_stress_1 : decode cX4_stress 1 = .ok (.iconst 0, 1) := dk_3 (dk_at dksX4_stress_0 1 rfl rfl)
theorem dX4_stress_2 : decode cX4_stress 2 = .ok (.bipush 100, 2) := dk_16 100 (dk_at dksX4_stress_0 2 rfl rfl)
theorem dX4_stress_4 : decode cX4_stress 4 = .ok (.invokestatic 68, 3) := dk_184 0 68 (dk_at dksX4_stress_0 4 rfl rfl)
theorem dX4_stress_7 : decode cX4_stress 7 = .ok (.ifCond .eq 11, 3) := dk_153 0 11 (dk_at dksX4_stress_0 7 rfl rfl)
theorem dX4_stress_10 : decode cX4_stress 10 = .ok (.aload_n 0, 1) := dk_42 (dk_at dksX4_stress_0 10 rfl rfl)
theorem dX4_stress_11 : decode cX4_stress 11 = .ok (.iload_n 2, 1) := dk_28 (dk_at dksX4_stress_0 11 rfl rfl)
theorem dX4_stress_12 : decode cX4_stress 12 = .ok (.invokevirtual 267, 3) := dk_182 1 11 (dk_at dksX4_stress_0 12 rfl rfl)
theorem dX4_stress_15 : decode cX4_stress 15 = .ok (.ifCond .ne 5, 3) := dk_154 0 5 (dk_at dksX4_stress_0 15 rfl rfl)
theorem dX4_stress_18 : decode cX4_stress 18 = .ok (.iconst (-1), 1) := dk_2 (dk_at dksX4_stress_0 18 rfl rfl)
theorem dX4_stress_19 : decode cX4_stress 19 = .ok (.ireturn, 1) := dk_172 (dk_at dksX4_stress_0 19 rfl rfl)
theorem dX4_stress_20 : decode cX4_stress 20 = .ok (.aload_n 0, 1) := dk_42 (dk_at dksX4_stress_0 20 rfl rfl)
theorem dX4_stress_21 : decode cX4_stress 21 = .ok (.invokevirtual 252, 3) := dk_182 0 252 (dk_at dksX4_stress_0 21 rfl rfl)
theorem dX4_stress_24 : decode cX4_stress 24 = .ok (.aload_n 0, 1) := dk_42 (dk_at dksX4_stress_1 0 rfl rfl)
theorem dX4_stress_25 : decode cX4_stress 25 = .ok (.iload_n 1, 1) := dk_27 (dk_at dksX4_stress_1 1 rfl rfl)
theorem dX4_stress_26 : decode cX4_stress 26 = .ok (.putfield 41, 3) := dk_181 0 41 (dk_at dksX4_stress_1 2 rfl rfl)
theorem dX4_stress_29 : decode cX4_stress 29 = .ok (.aload_n 0, 1) := dk_42 (dk_at dksX4_stress_1 5 rfl rfl)
theorem dX4_stress_30 : decode cX4_stress 30 = .ok (.invokevirtual 255, 3) := dk_182 0 255 (dk_at dksX4_stress_1 6 rfl rfl)
theorem dX4_stress_33 : decode cX4_stress 33 = .ok (.aload_n 0, 1) := dk_42 (dk_at dksX4_stress_1 9 rfl rfl)
theorem dX4_stress_34 : decode cX4_stress 34 = .ok (.iload_n 2, 1) := dk_28 (dk_at dksX4_stress_1 10 rfl rfl)
theorem dX4_stress_35 : decode cX4_stress 35 = .ok (.invokevirtual 258, 3) := dk_182 1 2 (dk_at dksX4_stress_1 11 rfl rfl)
theorem dX4_stress_38 : decode cX4_stress 38 = .ok (.ireturn, 1) := dk_172 (dk_at dksX4_stress_1 14 rfl rfl)
def dkwX4_fewest_2 : List UInt8 := [42, 180, 0, 41, 4, 96, 60, 167, 255, 220, 27, 172]
abbrev dktX4_fewest_2 : List UInt8 := dkwX4_fewest_2 ++ []
def dkwX4_fewest_1 : List UInt8 := [42, 27, 28, 96, 5, 108, 181, 0, 41, 42, 182, 1, 65, 153, 0, 11, 42, 180, 0, 41, 61, 167, 255, 230]
abbrev dktX4_fewest_1 : List UInt8 := dkwX4_fewest_1 ++ dktX4_fewest_2
def dkwX4_fewest_0 : List UInt8 := [42, 182, 0, 252, 42, 182, 1, 65, 154, 0, 6, 16, 254, 172, 3, 60, 16, 100, 61, 27, 28, 162, 0, 37]
abbrev dktX4_fewest_0 : List UInt8 := dkwX4_fewest_0 ++ dktX4_fewest_1
theorem dksX4_fewest_0 : cX4_fewest.data.toList.drop 0 = dktX4_fewest_0 := by decide +kernel
theorem dksX4_fewest_1 : cX4_fewest.data.toList.drop 24 = dktX4_fewest_1 := dk_seg dksX4_fewest_0 24 rfl rfl
theorem dksX4_fewest_2 : cX4_fewest.data.toList.drop 48 = dktX4_fewest_2 := dk_seg dksX4_fewest_1 24 rfl rfl
theorem dX4_fewest_0 : decode cX4_fewest 0 = .ok (.aload_n 0, 1) := dk_42 (dk_at dksX4_fewest_0 0 rfl rfl)
theorem dX4_fewest_1 : decode cX4_fewest 1 = .ok (.invokevirtual 252, 3) := dk_182 0 252 (dk_at dksX4_fewest_0 1 rfl rfl)
theorem dX4_fewest_4 : decode cX4_fewest 4 = .ok (.aload_n 0, 1) := dk_42 (dk_at dksX4_fewest_0 4 rfl rfl)
theorem dX4_fewest_5 : decode cX4_fewest 5 = .ok (.invokevirtual 321, 3) := dk_182 1 65 (dk_at dksX4_fewest_0 5 rfl rfl)
theorem dX4_fewest_8 : decode cX4_fewest 8 = .ok (.ifCond .ne 6, 3) := dk_154 0 6 (dk_at dksX4_fewest_0 8 rfl rfl)
theorem dX4_fewest_11 : decode cX4_fewest 11 = .ok (.bipush (-2), 2) := dk_16 254 (dk_at dksX4_fewest_0 11 rfl rfl)
theorem dX4_fewest_13 : decode cX4_fewest 13 = .ok (.ireturn, 1) := dk_172 (dk_at dksX4_fewest_0 13 rfl rfl)
theorem dX4_fewest_14 : decode cX4_fewest 14 = .ok (.iconst 0, 1) := dk_3 (dk_at dksX4_fewest_0 14 rfl rfl)
theorem dX4_fewest_15 : decode cX4_fewest 15 = .ok (.istore_n 1, 1) := dk_60 (dk_at dksX4_fewest_0 15 rfl rfl)
theorem dX4_fewest_16 : decode cX4_fewest 16 = .ok (.bipush 100, 2) := dk_16 100 (dk_at dksX4_fewest_0 16 rfl rfl)
theorem dX4_fewest_18 : decode cX4_fewest 18 = .ok (.istore_n 2, 1) := dk_61 (dk_at dksX4_fewest_0 18 rfl rfl)
theorem dX4_fewest_19 : decode cX4_fewest 19 = .ok (.iload_n 1, 1) := dk_27 (dk_at dksX4_fewest_0 19 rfl rfl)
theorem dX4_fewest_20 : decode cX4_fewest 20 = .ok (.iload_n 2, 1) := dk_28 (dk_at dksX4_fewest_0 20 rfl rfl)
theorem dX4_fewest_21 : decode cX4_fewest 21 = .ok (.if_icmp .ge 37, 3) := dk_162 0 37 (dk_at dksX4_fewest_0 21 rfl rfl)
theorem dX4_fewest_24 : decode cX4_fewest 24 = .ok (.aload_n 0, 1) := dk_42 (dk_at dksX4_fewest_1 0 rfl rfl)
theorem dX4_fewest_25 : decode cX4_fewest 25 = .ok (.iload_n 1, 1) := dk_27 (dk_at dksX4_fewest_1 1 rfl rfl)
theorem dX4_fewest_26 : decode cX4_fewest 26 = .ok (.iload_n 2, 1) := dk_28 (dk_at dksX4_fewest_1 2 rfl rfl)
theorem dX4_fewest_27 : decode cX4_fewest 27 = .ok (.iadd, 1) := dk_96 (dk_at dksX4_fewest_1 3 rfl rfl)
theorem dX4_fewest_28 : decode cX4_fewest 28 = .ok (.iconst 2, 1) := dk_5 (dk_at dksX4_fewest_1 4 rfl rfl)
theorem dX4_fewest_29 : decode cX4_fewest 29 = .ok (.idiv, 1) := dk_108 (dk_at dksX4_fewest_1 5 rfl rfl)
theorem dX4_fewest_30 : decode cX4_fewest 30 = .ok (.putfield 41, 3) := dk_181 0 41 (dk_at dksX4_fewest_1 6 rfl rfl)
theorem dX4_fewest_33 : decode cX4_fewest 33 = .ok (.aload_n 0, 1) := dk_42 (dk_at dksX4_fewest_1 9 rfl rfl)
theorem dX4_fewest_34 : decode cX4_fewest 34 = .ok (.invokevirtual 321, 3) := dk_182 1 65 (dk_at dksX4_fewest_1 10 rfl rfl)
theorem dX4_fewest_37 : decode cX4_fewest 37 = .ok (.ifCond .eq 11, 3) := dk_153 0 11 (dk_at dksX4_fewest_1 13 rfl rfl)
theorem dX4_fewest_40 : decode cX4_fewest 40 = .ok (.aload_n 0, 1) := dk_42 (dk_at dksX4_fewest_1 16 rfl rfl)
theorem dX4_fewest_41 : decode cX4_fewest 41 = .ok (.getfield 41, 3) := dk_180 0 41 (dk_at dksX4_fewest_1 17 rfl rfl)
theorem dX4_fewest_44 : decode cX4_fewest 44 = .ok (.istore_n 2, 1) := dk_61 (dk_at dksX4_fewest_1 20 rfl rfl)
theorem dX4_fewest_45 : decode cX4_fewest 45 = .ok (.goto (-26), 3) := dk_167 255 230 (dk_at dksX4_fewest_1 21 rfl rfl)
theorem dX4_fewest_48 : decode cX4_fewest 48 = .ok (.aload_n 0, 1) := dk_42 (dk_at dksX4_fewest_2 0 rfl rfl)
theorem dX4_fewest_49 : decode cX4_fewest 49 = .ok (.getfield 41, 3) := dk_180 0 41 (dk_at dksX4_fewest_2 1 rfl rfl)
theorem dX4_fewest_52 : decode cX4_fewest 52 = .ok (.iconst 1, 1) := dk_4 (dk_at dksX4_fewest_2 4 rfl rfl)
theorem dX4_fewest_53 : decode cX4_fewest 53 = .ok (.iadd, 1) := dk_96 (dk_at dksX4_fewest_2 5 rfl rfl)
theorem dX4_fewest_54 : decode cX4_fewest 54 = .ok (.istore_n 1, 1) := dk_60 (dk_at dksX4_fewest_2 6 rfl rfl)
theorem dX4_fewest_55 : decode cX4_fewest 55 = .ok (.goto (-36), 3) := dk_167 255 220 (dk_at dksX4_fewest_2 7 rfl rfl)
theorem dX4_fewest_58 : decode cX4_fewest 58 = .ok (.iload_n 1, 1) := dk_27 (dk_at dksX4_fewest_2 10 rfl rfl)
theorem dX4_fewest_59 : decode cX4_fewest 59 = .ok (.ireturn, 1) := dk_172 (dk_at dksX4_fewest_2 11 rfl rfl)
def dkwX4_doubtful_1 : List UInt8 := [130, 126, 172]
abbrev dktX4_doubtful_1 : List UInt8 := dkwX4_doubtful_1 ++ []
def dkwX4_doubtful_0 : List UInt8 := [42, 182, 0, 252, 42, 182, 0, 255, 42, 180, 0, 184, 60, 42, 5, 182, 1, 14, 42, 180, 0, 184, 27, 2]
abbrev dktX4_doubtful_0 : List UInt8 := dkwX4_doubtful_0 ++ dktX4_doubtful_1
theorem dksX4_doubtful_0 : cX4_doubtful.data.toList.drop 0 = dktX4_doubtful_0 := by decide +kernel
theorem dksX4_doubtful_1 : cX4_doubtful.data.toList.drop 24 = dktX4_doubtful_1 := dk_seg dksX4_doubtful_0 24 rfl rfl
theorem dX4_doubtful_0 : decode cX4_doubtful 0 = .ok (.aload_n 0, 1) := dk_42 (dk_at dksX4_doubtful_0 0 rfl rfl)
theorem dX4_doubtful_1 : decode cX4_doubtful 1 = .ok (.invokevirtual 252, 3) := dk_182 0 252 (dk_at dksX4_doubtful_0 1 rfl rfl)
theorem dX4_doubtful_4 : decode cX4_doubtful 4 = .ok (.aload_n 0, 1) := dk_42 (dk_at dksX4_doubtful_0 4 rfl rfl)
theorem dX4_doubtful_5 : decode cX4_doubtful 5 = .ok (.invokevirtual 255, 3) := dk_182 0 255 (dk_at dksX4_doubtful_0 5 rfl rfl)
theorem dX4_doubtful_8 : decode cX4_doubtful 8 = .ok (.aload_n 0, 1) := dk_42 (dk_at dksX4_doubtful_0 8 rfl rfl)
theorem dX4_doubtful_9 : decode cX4_doubtful 9 = .ok (.getfield 184, 3) := dk_180 0 184 (dk_at dksX4_doubtful_0 9 rfl rfl)
theorem dX4_doubtful_12 : decode cX4_doubtful 12 = .ok (.istore_n 1, 1) := dk_60 (dk_at dksX4_doubtful_0 12 rfl rfl)
theorem dX4_doubtful_13 : decode cX4_doubtful 13 = .ok (.aload_n 0, 1) := dk_42 (dk_at dksX4_doubtful_0 13 rfl rfl)
theorem dX4_doubtful_14 : decode cX4_doubtful 14 = .ok (.iconst 2, 1) := dk_5 (dk_at dksX4_doubtful_0 14 rfl rfl)
theorem dX4_doubtful_15 : decode cX4_doubtful 15 = .ok (.invokevirtual 270, 3) := dk_182 1 14 (dk_at dksX4_doubtful_0 15 rfl rfl)
theorem dX4_doubtful_18 : decode cX4_doubtful 18 = .ok (.aload_n 0, 1) := dk_42 (dk_at dksX4_doubtful_0 18 rfl rfl)
theorem dX4_doubtful_19 : decode cX4_doubtful 19 = .ok (.getfield 184, 3) := dk_180 0 184 (dk_at dksX4_doubtful_0 19 rfl rfl)
theorem dX4_doubtful_22 : decode cX4_doubtful 22 = .ok (.iload_n 1, 1) := dk_27 (dk_at dksX4_doubtful_0 22 rfl rfl)
theorem dX4_doubtful_23 : decode cX4_doubtful 23 = .ok (.iconst (-1), 1) := dk_2 (dk_at dksX4_doubtful_0 23 rfl rfl)
theorem dX4_doubtful_24 : decode cX4_doubtful 24 = .ok (.ixor, 1) := dk_130 (dk_at dksX4_doubtful_1 0 rfl rfl)
theorem dX4_doubtful_25 : decode cX4_doubtful 25 = .ok (.iand, 1) := dk_126 (dk_at dksX4_doubtful_1 1 rfl rfl)
theorem dX4_doubtful_26 : decode cX4_doubtful 26 = .ok (.ireturn, 1) := dk_172 (dk_at dksX4_doubtful_1 2 rfl rfl)
def dkwX4_spell_7 : List UInt8 := [27, 42, 180, 1, 86, 162, 0, 12, 42, 180, 0, 62, 27, 46, 167, 0, 5, 16, 254, 172]
abbrev dktX4_spell_7 : List UInt8 := dkwX4_spell_7 ++ []
def dkwX4_spell_6 : List UInt8 := [132, 3, 1, 167, 255, 192, 132, 2, 1, 167, 255, 179, 27, 2, 160, 0, 10, 42, 180, 1, 86, 167, 0, 22]
abbrev dktX4_spell_6 : List UInt8 := dkwX4_spell_6 ++ dktX4_spell_7
def dkwX4_spell_5 : List UInt8 := [4, 182, 0, 155, 182, 1, 96, 42, 42, 28, 29, 5, 182, 0, 155, 182, 1, 96, 42, 16, 59, 182, 1, 89]
abbrev dktX4_spell_5 : List UInt8 := dkwX4_spell_5 ++ dktX4_spell_6
def dkwX4_spell_4 : List UInt8 := [162, 0, 54, 42, 28, 154, 0, 9, 20, 0, 142, 167, 0, 6, 20, 0, 147, 182, 1, 92, 42, 42, 28, 29]
abbrev dktX4_spell_4 : List UInt8 := dkwX4_spell_4 ++ dktX4_spell_5
def dkwX4_spell_3 : List UInt8 := [3, 61, 28, 5, 162, 0, 78, 3, 62, 29, 42, 180, 0, 7, 16, 100, 16, 13, 28, 104, 96, 46]
abbrev dktX4_spell_3 : List UInt8 := dkwX4_spell_3 ++ dktX4_spell_4
def dkwX4_spell_2 : List UInt8 := [16, 6, 28, 96, 46, 182, 1, 96, 42, 16, 59, 182, 1, 89, 132, 2, 1, 167, 255, 205, 42, 182, 1, 99]
abbrev dktX4_spell_2 : List UInt8 := dkwX4_spell_2 ++ dktX4_spell_3
def dkwX4_spell_1 : List UInt8 := [42, 20, 0, 123, 182, 1, 92, 42, 42, 180, 0, 7, 5, 28, 96, 46, 182, 1, 96, 42, 42, 180, 0, 7]
abbrev dktX4_spell_1 : List UInt8 := dkwX4_spell_1 ++ dktX4_spell_2
def dkwX4_spell_0 : List UInt8 := [27, 2, 162, 0, 5, 2, 172, 42, 3, 181, 1, 86, 3, 61, 28, 42, 180, 0, 7, 3, 46, 162, 0, 47]
abbrev dktX4_spell_0 : List UInt8 := dkwX4_spell_0 ++ dktX4_spell_1
theorem dksX4_spell_0 : cX4_spell.data.toList.drop 0 = dktX4_spell_0 := by decide +kernel
theorem dksX4_spell_1 : cX4_spell.data.toList.drop 24 = dktX4_spell_1 := dk_seg dksX4_spell_0 24 rfl rfl
theorem dksX4_spell_2 : cX4_spell.data.toList.drop 48 = dktX4_spell_2 := dk_seg dksX4_spell_1 24 rfl rfl
theorem dksX4_spell_3 : cX4_spell.data.toList.drop 72 = dktX4_spell_3 := dk_seg dksX4_spell_2 24 rfl rfl
theorem dksX4_spell_4 : cX4_spell.data.toList.drop 94 = dktX4_spell_4 := dk_seg dksX4_spell_3 22 rfl rfl
theorem dksX4_spell_5 : cX4_spell.data.toList.drop 118 = dktX4_spell_5 := dk_seg dksX4_spell_4 24 rfl rfl
theorem dksX4_spell_6 : cX4_spell.data.toList.drop 142 = dktX4_spell_6 := dk_seg dksX4_spell_5 24 rfl rfl
theorem dksX4_spell_7 : cX4_spell.data.toList.drop 166 = dktX4_spell_7 := dk_seg dksX4_spell_6 24 rfl rfl
theorem dX4_spell_0 : decode cX4_spell 0 = .ok (.iload_n 1, 1) := dk_27 (dk_at dksX4_spell_0 0 rfl rfl)
theorem dX4_spell_1 : decode cX4_spell 1 = .ok (.iconst (-1), 1) := dk_2 (dk_at dksX4_spell_0 1 rfl rfl)
theorem dX4_spell_2 : decode cX4_spell 2 = .ok (.if_icmp .ge 5, 3) := dk_162 0 5 (dk_at dksX4_spell_0 2 rfl rfl)
theorem dX4_spell_5 : decode cX4_spell 5 = .ok (.iconst (-1), 1) := dk_2 (dk_at dksX4_spell_0 5 rfl rfl)
theorem dX4_spell_6 : decode cX4_spell 6 = .ok (.ireturn, 1) := dk_172 (dk_at dksX4_spell_0 6 rfl rfl)
theorem dX4_spell_7 : decode cX4_spell 7 = .ok (.aload_n 0, 1) := dk_42 (dk_at dksX4_spell_0 7 rfl rfl)
theorem dX4_spell_8 : decode cX4_spell 8 = .ok (.iconst 0, 1) := dk_3 (dk_at dksX4_spell_0 8 rfl rfl)
theorem dX4_spell_9 : decode cX4_spell 9 = .ok (.putfield 342, 3) := dk_181 1 86 (dk_at dksX4_spell_0 9 rfl rfl)
theorem dX4_spell_12 : decode cX4_spell 12 = .ok (.iconst 0, 1) := dk_3 (dk_at dksX4_spell_0 12 rfl rfl)
theorem dX4_spell_13 : decode cX4_spell 13 = .ok (.istore_n 2, 1) := dk_61 (dk_at dksX4_spell_0 13 rfl rfl)
theorem dX4_spell_14 : decode cX4_spell 14 = .ok (.iload_n 2, 1) := dk_28 (dk_at dksX4_spell_0 14 rfl rfl)
theorem dX4_spell_15 : decode cX4_spell 15 = .ok (.aload_n 0, 1) := dk_42 (dk_at dksX4_spell_0 15 rfl rfl)
theorem dX4_spell_16 : decode cX4_spell 16 = .ok (.getfield 7, 3) := dk_180 0 7 (dk_at dksX4_spell_0 16 rfl rfl)
theorem dX4_spell_19 : decode cX4_spell 19 = .ok (.iconst 0, 1) := dk_3 (dk_at dksX4_spell_0 19 rfl rfl)
theorem dX4_spell_20 : decode cX4_spell 20 = .ok (.iaload, 1) := dk_46 (dk_at dksX4_spell_0 20 rfl rfl)
theorem dX4_spell_21 : decode cX4_spell 21 = .ok (.if_icmp .ge 47, 3) := dk_162 0 47 (dk_at dksX4_spell_0 21 rfl rfl)
theorem dX4_spell_24 : decode cX4_spell 24 = .ok (.aload_n 0, 1) := dk_42 (dk_at dksX4_spell_1 0 rfl rfl)
theorem dX4_spell_25 : decode cX4_spell 25 = .ok (.ldc2_w 123, 3) := dk_20 0 123 (dk_at dksX4_spell_1 1 rfl rfl)
theorem dX4_spell_28 : decode cX4_spell 28 = .ok (.invokevirtual 348, 3) := dk_182 1 92 (dk_at dksX4_spell_1 4 rfl rfl)
theorem dX4_spell_31 : decode cX4_spell 31 = .ok (.aload_n 0, 1) := dk_42 (dk_at dksX4_spell_1 7 rfl rfl)
theorem dX4_spell_32 : decode cX4_spell 32 = .ok (.aload_n 0, 1) := dk_42 (dk_at dksX4_spell_1 8 rfl rfl)
theorem dX4_spell_33 : decode cX4_spell 33 = .ok (.getfield 7, 3) := dk_180 0 7 (dk_at dksX4_spell_1 9 rfl rfl)
theorem dX4_spell_36 : decode cX4_spell 36 = .ok (.iconst 2, 1) := dk_5 (dk_at dksX4_spell_1 12 rfl rfl)
theorem dX4_spell_37 : decode cX4_spell 37 = .ok (.iload_n 2, 1) := dk_28 (dk_at dksX4_spell_1 13 rfl rfl)
theorem dX4_spell_38 : decode cX4_spell 38 = .ok (.iadd, 1) := dk_96 (dk_at dksX4_spell_1 14 rfl rfl)
theorem dX4_spell_39 : decode cX4_spell 39 = .ok (.iaload, 1) := dk_46 (dk_at dksX4_spell_1 15 rfl rfl)
theorem dX4_spell_40 : decode cX4_spell 40 = .ok (.invokevirtual 352, 3) := dk_182 1 96 (dk_at dksX4_spell_1 16 rfl rfl)
theorem dX4_spell_43 : decode cX4_spell 43 = .ok (.aload_n 0, 1) := dk_42 (dk_at dksX4_spell_1 19 rfl rfl)
theorem dX4_spell_44 : decode cX4_spell 44 = .ok (.aload_n 0, 1) := dk_42 (dk_at dksX4_spell_1 20 rfl rfl)
theorem dX4_spell_45 : decode cX4_spell 45 = .ok (.getfield 7, 3) := dk_180 0 7 (dk_at dksX4_spell_1 21 rfl rfl)
theorem dX4_spell_48 : decode cX4_spell 48 = .ok (.bipush 6, 2) := dk_16 6 (dk_at dksX4_spell_2 0 rfl rfl)
theorem dX4_spell_50 : decode cX4_spell 50 = .ok (.iload_n 2, 1) := dk_28 (dk_at dksX4_spell_2 2 rfl rfl)
theorem dX4_spell_51 : decode cX4_spell 51 = .ok (.iadd, 1) := dk_96 (dk_at dksX4_spell_2 3 rfl rfl)
theorem dX4_spell_52 : decode cX4_spell 52 = .ok (.iaload, 1) := dk_46 (dk_at dksX4_spell_2 4 rfl rfl)
theorem dX4_spell_53 : decode cX4_spell 53 = .ok (.invokevirtual 352, 3) := dk_182 1 96 (dk_at dksX4_spell_2 5 rfl rfl)
theorem dX4_spell_56 : decode cX4_spell 56 = .ok (.aload_n 0, 1) := dk_42 (dk_at dksX4_spell_2 8 rfl rfl)
theorem dX4_spell_57 : decode cX4_spell 57 = .ok (.bipush 59, 2) := dk_16 59 (dk_at dksX4_spell_2 9 rfl rfl)
theorem dX4_spell_59 : decode cX4_spell 59 = .ok (.invokevirtual 345, 3) := dk_182 1 89 (dk_at dksX4_spell_2 11 rfl rfl)
theorem dX4_spell_62 : decode cX4_spell 62 = .ok (.iinc 2 1, 3) := dk_132 2 1 (dk_at dksX4_spell_2 14 rfl rfl)
theorem dX4_spell_65 : decode cX4_spell 65 = .ok (.goto (-51), 3) := dk_167 255 205 (dk_at dksX4_spell_2 17 rfl rfl)
theorem dX4_spell_68 : decode cX4_spell 68 = .ok (.aload_n 0, 1) := dk_42 (dk_at dksX4_spell_2 20 rfl rfl)
theorem dX4_spell_69 : decode cX4_spell 69 = .ok (.invokevirtual 355, 3) := dk_182 1 99 (dk_at dksX4_spell_2 21 rfl rfl)
theorem dX4_spell_72 : decode cX4_spell 72 = .ok (.iconst 0, 1) := dk_3 (dk_at dksX4_spell_3 0 rfl rfl)
theorem dX4_spell_73 : decode cX4_spell 73 = .ok (.istore_n 2, 1) := dk_61 (dk_at dksX4_spell_3 1 rfl rfl)
theorem dX4_spell_74 : decode cX4_spell 74 = .ok (.iload_n 2, 1) := dk_28 (dk_at dksX4_spell_3 2 rfl rfl)
theorem dX4_spell_75 : decode cX4_spell 75 = .ok (.iconst 2, 1) := dk_5 (dk_at dksX4_spell_3 3 rfl rfl)
theorem dX4_spell_76 : decode cX4_spell 76 = .ok (.if_icmp .ge 78, 3) := dk_162 0 78 (dk_at dksX4_spell_3 4 rfl rfl)
theorem dX4_spell_79 : decode cX4_spell 79 = .ok (.iconst 0, 1) := dk_3 (dk_at dksX4_spell_3 7 rfl rfl)
theorem dX4_spell_80 : decode cX4_spell 80 = .ok (.istore_n 3, 1) := dk_62 (dk_at dksX4_spell_3 8 rfl rfl)
theorem dX4_spell_81 : decode cX4_spell 81 = .ok (.iload_n 3, 1) := dk_29 (dk_at dksX4_spell_3 9 rfl rfl)
theorem dX4_spell_82 : decode cX4_spell 82 = .ok (.aload_n 0, 1) := dk_42 (dk_at dksX4_spell_3 10 rfl rfl)
theorem dX4_spell_83 : decode cX4_spell 83 = .ok (.getfield 7, 3) := dk_180 0 7 (dk_at dksX4_spell_3 11 rfl rfl)
theorem dX4_spell_86 : decode cX4_spell 86 = .ok (.bipush 100, 2) := dk_16 100 (dk_at dksX4_spell_3 14 rfl rfl)
theorem dX4_spell_88 : decode cX4_spell 88 = .ok (.bipush 13, 2) := dk_16 13 (dk_at dksX4_spell_3 16 rfl rfl)
theorem dX4_spell_90 : decode cX4_spell 90 = .ok (.iload_n 2, 1) := dk_28 (dk_at dksX4_spell_3 18 rfl rfl)
theorem dX4_spell_91 : decode cX4_spell 91 = .ok (.imul, 1) := dk_104 (dk_at dksX4_spell_3 19 rfl rfl)
theorem dX4_spell_92 : decode cX4_spell 92 = .ok (.iadd, 1) := dk_96 (dk_at dksX4_spell_3 20 rfl rfl)
theorem dX4_spell_93 : decode cX4_spell 93 = .ok (.iaload, 1) := dk_46 (dk_at dksX4_spell_3 21 rfl rfl)
theorem dX4_spell_94 : decode cX4_spell 94 = .ok (.if_icmp .ge 54, 3) := dk_162 0 54 (dk_at dksX4_spell_4 0 rfl rfl)
theorem dX4_spell_97 : decode cX4_spell 97 = .ok (.aload_n 0, 1) := dk_42 (dk_at dksX4_spell_4 3 rfl rfl)
theorem dX4_spell_98 : decode cX4_spell 98 = .ok (.iload_n 2, 1) := dk_28 (dk_at dksX4_spell_4 4 rfl rfl)
theorem dX4_spell_99 : decode cX4_spell 99 = .ok (.ifCond .ne 9, 3) := dk_154 0 9 (dk_at dksX4_spell_4 5 rfl rfl)
theorem dX4_spell_102 : decode cX4_spell 102 = .ok (.ldc2_w 142, 3) := dk_20 0 142 (dk_at dksX4_spell_4 8 rfl rfl)
theorem dX4_spell_105 : decode cX4_spell 105 = .ok (.goto 6, 3) := dk_167 0 6 (dk_at dksX4_spell_4 11 rfl rfl)
theorem dX4_spell_108 : decode cX4_spell 108 = .ok (.ldc2_w 147, 3) := dk_20 0 147 (dk_at dksX4_spell_4 14 rfl rfl)
theorem dX4_spell_111 : decode cX4_spell 111 = .ok (.invokevirtual 348, 3) := dk_182 1 92 (dk_at dksX4_spell_4 17 rfl rfl)
theorem dX4_spell_114 : decode cX4_spell 114 = .ok (.aload_n 0, 1) := dk_42 (dk_at dksX4_spell_4 20 rfl rfl)
theorem dX4_spell_115 : decode cX4_spell 115 = .ok (.aload_n 0, 1) := dk_42 (dk_at dksX4_spell_4 21 rfl rfl)
theorem dX4_spell_116 : decode cX4_spell 116 = .ok (.iload_n 2, 1) := dk_28 (dk_at dksX4_spell_4 22 rfl rfl)
theorem dX4_spell_117 : decode cX4_spell 117 = .ok (.iload_n 3, 1) := dk_29 (dk_at dksX4_spell_4 23 rfl rfl)
theorem dX4_spell_118 : decode cX4_spell 118 = .ok (.iconst 1, 1) := dk_4 (dk_at dksX4_spell_5 0 rfl rfl)
theorem dX4_spell_119 : decode cX4_spell 119 = .ok (.invokevirtual 155, 3) := dk_182 0 155 (dk_at dksX4_spell_5 1 rfl rfl)
theorem dX4_spell_122 : decode cX4_spell 122 = .ok (.invokevirtual 352, 3) := dk_182 1 96 (dk_at dksX4_spell_5 4 rfl rfl)
theorem dX4_spell_125 : decode cX4_spell 125 = .ok (.aload_n 0, 1) := dk_42 (dk_at dksX4_spell_5 7 rfl rfl)
theorem dX4_spell_126 : decode cX4_spell 126 = .ok (.aload_n 0, 1) := dk_42 (dk_at dksX4_spell_5 8 rfl rfl)
theorem dX4_spell_127 : decode cX4_spell 127 = .ok (.iload_n 2, 1) := dk_28 (dk_at dksX4_spell_5 9 rfl rfl)
theorem dX4_spell_128 : decode cX4_spell 128 = .ok (.iload_n 3, 1) := dk_29 (dk_at dksX4_spell_5 10 rfl rfl)
theorem dX4_spell_129 : decode cX4_spell 129 = .ok (.iconst 2, 1) := dk_5 (dk_at dksX4_spell_5 11 rfl rfl)
theorem dX4_spell_130 : decode cX4_spell 130 = .ok (.invokevirtual 155, 3) := dk_182 0 155 (dk_at dksX4_spell_5 12 rfl rfl)
theorem dX4_spell_133 : decode cX4_spell 133 = .ok (.invokevirtual 352, 3) := dk_182 1 96 (dk_at dksX4_spell_5 15 rfl rfl)
theorem dX4_spell_136 : decode cX4_spell 136 = .ok (.aload_n 0, 1) := dk_42 (dk_at dksX4_spell_5 18 rfl rfl)
theorem dX4_spell_137 : decode cX4_spell 137 = .ok (.bipush 59, 2) := dk_16 59 (dk_at dksX4_spell_5 19 rfl rfl)
theorem dX4_spell_139 : decode cX4_spell 139 = .ok (.invokevirtual 345, 3) := dk_182 1 89 (dk_at dksX4_spell_5 21 rfl rfl)
theorem dX4_spell_142 : decode cX4_spell 142 = .ok (.iinc 3 1, 3) := dk_132 3 1 (dk_at dksX4_spell_6 0 rfl rfl)
theorem dX4_spell_145 : decode cX4_spell 145 = .ok (.goto (-64), 3) := dk_167 255 192 (dk_at dksX4_spell_6 3 rfl rfl)
theorem dX4_spell_148 : decode cX4_spell 148 = .ok (.iinc 2 1, 3) := dk_132 2 1 (dk_at dksX4_spell_6 6 rfl rfl)
theorem dX4_spell_151 : decode cX4_spell 151 = .ok (.goto (-77), 3) := dk_167 255 179 (dk_at dksX4_spell_6 9 rfl rfl)
theorem dX4_spell_154 : decode cX4_spell 154 = .ok (.iload_n 1, 1) := dk_27 (dk_at dksX4_spell_6 12 rfl rfl)
theorem dX4_spell_155 : decode cX4_spell 155 = .ok (.iconst (-1), 1) := dk_2 (dk_at dksX4_spell_6 13 rfl rfl)
theorem dX4_spell_156 : decode cX4_spell 156 = .ok (.if_icmp .ne 10, 3) := dk_160 0 10 (dk_at dksX4_spell_6 14 rfl rfl)
theorem dX4_spell_159 : decode cX4_spell 159 = .ok (.aload_n 0, 1) := dk_42 (dk_at dksX4_spell_6 17 rfl rfl)
theorem dX4_spell_160 : decode cX4_spell 160 = .ok (.getfield 342, 3) := dk_180 1 86 (dk_at dksX4_spell_6 18 rfl rfl)
theorem dX4_spell_163 : decode cX4_spell 163 = .ok (.goto 22, 3) := dk_167 0 22 (dk_at dksX4_spell_6 21 rfl rfl)
theorem dX4_spell_166 : decode cX4_spell 166 = .ok (.iload_n 1, 1) := dk_27 (dk_at dksX4_spell_7 0 rfl rfl)
theorem dX4_spell_167 : decode cX4_spell 167 = .ok (.aload_n 0, 1) := dk_42 (dk_at dksX4_spell_7 1 rfl rfl)
theorem dX4_spell_168 : decode cX4_spell 168 = .ok (.getfield 342, 3) := dk_180 1 86 (dk_at dksX4_spell_7 2 rfl rfl)
theorem dX4_spell_171 : decode cX4_spell 171 = .ok (.if_icmp .ge 12, 3) := dk_162 0 12 (dk_at dksX4_spell_7 5 rfl rfl)
theorem dX4_spell_174 : decode cX4_spell 174 = .ok (.aload_n 0, 1) := dk_42 (dk_at dksX4_spell_7 8 rfl rfl)
theorem dX4_spell_175 : decode cX4_spell 175 = .ok (.getfield 62, 3) := dk_180 0 62 (dk_at dksX4_spell_7 9 rfl rfl)
theorem dX4_spell_178 : decode cX4_spell 178 = .ok (.iload_n 1, 1) := dk_27 (dk_at dksX4_spell_7 12 rfl rfl)
theorem dX4_spell_179 : decode cX4_spell 179 = .ok (.iaload, 1) := dk_46 (dk_at dksX4_spell_7 13 rfl rfl)
theorem dX4_spell_180 : decode cX4_spell 180 = .ok (.goto 5, 3) := dk_167 0 5 (dk_at dksX4_spell_7 14 rfl rfl)
theorem dX4_spell_183 : decode cX4_spell 183 = .ok (.bipush (-2), 2) := dk_16 254 (dk_at dksX4_spell_7 17 rfl rfl)
theorem dX4_spell_185 : decode cX4_spell 185 = .ok (.ireturn, 1) := dk_172 (dk_at dksX4_spell_7 19 rfl rfl)
def dkwX4_spells_2 : List UInt8 := [22, 5, 20, 0, 109, 109, 55, 5, 167, 255, 225, 177]
abbrev dktX4_spells_2 : List UInt8 := dkwX4_spells_2 ++ []
def dkwX4_spells_1 : List UInt8 := [22, 5, 9, 148, 158, 0, 30, 42, 31, 22, 5, 109, 20, 0, 109, 113, 136, 16, 96, 96, 182, 1, 89]
abbrev dktX4_spells_1 : List UInt8 := dkwX4_spells_1 ++ dktX4_spells_2
def dkwX4_spells_0 : List UInt8 := [10, 66, 20, 0, 109, 33, 105, 31, 148, 157, 0, 12, 33, 20, 0, 109, 105, 66, 167, 255, 240, 33, 55, 5]
abbrev dktX4_spells_0 : List UInt8 := dkwX4_spells_0 ++ dktX4_spells_1
theorem dksX4_spells_0 : cX4_spells.data.toList.drop 0 = dktX4_spells_0 := by decide +kernel
theorem dksX4_spells_1 : cX4_spells.data.toList.drop 24 = dktX4_spells_1 := dk_seg dksX4_spells_0 24 rfl rfl
theorem dksX4_spells_2 : cX4_spells.data.toList.drop 47 = dktX4_spells_2 := dk_seg dksX4_spells_1 23 rfl rfl
theorem dX4_spells_0 : decode cX4_spells 0 = .ok (.lconst 1, 1) := dk_10 (dk_at dksX4_spells_0 0 rfl rfl)
theorem dX4_spells_1 : decode cX4_spells 1 = .ok (.lstore_n 3, 1) := dk_66 (dk_at dksX4_spells_0 1 rfl rfl)
theorem dX4_spells_2 : decode cX4_spells 2 = .ok (.ldc2_w 109, 3) := dk_20 0 109 (dk_at dksX4_spells_0 2 rfl rfl)
theorem dX4_spells_5 : decode cX4_spells 5 = .ok (.lload_n 3, 1) := dk_33 (dk_at dksX4_spells_0 5 rfl rfl)
theorem dX4_spells_6 : decode cX4_spells 6 = .ok (.lmul, 1) := dk_105 (dk_at dksX4_spells_0 6 rfl rfl)
theorem dX4_spells_7 : decode cX4_spells 7 = .ok (.lload_n 1, 1) := dk_31 (dk_at dksX4_spells_0 7 rfl rfl)
theorem dX4_spells_8 : decode cX4_spells 8 = .ok (.lcmp, 1) := dk_148 (dk_at dksX4_spells_0 8 rfl rfl)
theorem dX4_spells_9 : decode cX4_spells 9 = .ok (.ifCond .gt 12, 3) := dk_157 0 12 (dk_at dksX4_spells_0 9 rfl rfl)
theorem dX4_spells_12 : decode cX4_spells 12 = .ok (.lload_n 3, 1) := dk_33 (dk_at dksX4_spells_0 12 rfl rfl)
theorem dX4_spells_13 : decode cX4_spells 13 = .ok (.ldc2_w 109, 3) := dk_20 0 109 (dk_at dksX4_spells_0 13 rfl rfl)
theorem dX4_spells_16 : decode cX4_spells 16 = .ok (.lmul, 1) := dk_105 (dk_at dksX4_spells_0 16 rfl rfl)
theorem dX4_spells_17 : decode cX4_spells 17 = .ok (.lstore_n 3, 1) := dk_66 (dk_at dksX4_spells_0 17 rfl rfl)
theorem dX4_spells_18 : decode cX4_spells 18 = .ok (.goto (-16), 3) := dk_167 255 240 (dk_at dksX4_spells_0 18 rfl rfl)
theorem dX4_spells_21 : decode cX4_spells 21 = .ok (.lload_n 3, 1) := dk_33 (dk_at dksX4_spells_0 21 rfl rfl)
theorem dX4_spells_22 : decode cX4_spells 22 = .ok (.lstore 5, 2) := dk_55 5 (dk_at dksX4_spells_0 22 rfl rfl)
theorem dX4_spells_24 : decode cX4_spells 24 = .ok (.lload 5, 2) := dk_22 5 (dk_at dksX4_spells_1 0 rfl rfl)
theorem dX4_spells_26 : decode cX4_spells 26 = .ok (.lconst 0, 1) := dk_9 (dk_at dksX4_spells_1 2 rfl rfl)
theorem dX4_spells_27 : decode cX4_spells 27 = .ok (.lcmp, 1) := dk_148 (dk_at dksX4_spells_1 3 rfl rfl)
theorem dX4_spells_28 : decode cX4_spells 28 = .ok (.ifCond .le 30, 3) := dk_158 0 30 (dk_at dksX4_spells_1 4 rfl rfl)
theorem dX4_spells_31 : decode cX4_spells 31 = .ok (.aload_n 0, 1) := dk_42 (dk_at dksX4_spells_1 7 rfl rfl)
theorem dX4_spells_32 : decode cX4_spells 32 = .ok (.lload_n 1, 1) := dk_31 (dk_at dksX4_spells_1 8 rfl rfl)
theorem dX4_spells_33 : decode cX4_spells 33 = .ok (.lload 5, 2) := dk_22 5 (dk_at dksX4_spells_1 9 rfl rfl)
theorem dX4_spells_35 : decode cX4_spells 35 = .ok (.ldiv, 1) := dk_109 (dk_at dksX4_spells_1 11 rfl rfl)
theorem dX4_spells_36 : decode cX4_spells 36 = .ok (.ldc2_w 109, 3) := dk_20 0 109 (dk_at dksX4_spells_1 12 rfl rfl)
theorem dX4_spells_39 : decode cX4_spells 39 = .ok (.lrem, 1) := dk_113 (dk_at dksX4_spells_1 15 rfl rfl)
theorem dX4_spells_40 : decode cX4_spells 40 = .ok (.l2i, 1) := dk_136 (dk_at dksX4_spells_1 16 rfl rfl)
theorem dX4_spells_41 : decode cX4_spells 41 = .ok (.bipush 96, 2) := dk_16 96 (dk_at dksX4_spells_1 17 rfl rfl)
theorem dX4_spells_43 : decode cX4_spells 43 = .ok (.iadd, 1) := dk_96 (dk_at dksX4_spells_1 19 rfl rfl)
theorem dX4_spells_44 : decode cX4_spells 44 = .ok (.invokevirtual 345, 3) := dk_182 1 89 (dk_at dksX4_spells_1 20 rfl rfl)
theorem dX4_spells_47 : decode cX4_spells 47 = .ok (.lload 5, 2) := dk_22 5 (dk_at dksX4_spells_2 0 rfl rfl)
theorem dX4_spells_49 : decode cX4_spells 49 = .ok (.ldc2_w 109, 3) := dk_20 0 109 (dk_at dksX4_spells_2 2 rfl rfl)
theorem dX4_spells_52 : decode cX4_spells 52 = .ok (.ldiv, 1) := dk_109 (dk_at dksX4_spells_2 5 rfl rfl)
theorem dX4_spells_53 : decode cX4_spells 53 = .ok (.lstore 5, 2) := dk_55 5 (dk_at dksX4_spells_2 6 rfl rfl)
theorem dX4_spells_55 : decode cX4_spells 55 = .ok (.goto (-31), 3) := dk_167 255 225 (dk_at dksX4_spells_2 8 rfl rfl)
theorem dX4_spells_58 : decode cX4_spells 58 = .ok (.return_, 1) := dk_177 (dk_at dksX4_spells_2 11 rfl rfl)
def dkwX4_spellsByte_0 : List UInt8 := [42, 180, 0, 62, 42, 180, 1, 86, 27, 79, 42, 89, 180, 1, 86, 4, 96, 181, 1, 86, 177]
abbrev dktX4_spellsByte_0 : List UInt8 := dkwX4_spellsByte_0 ++ []
theorem dksX4_spellsByte_0 : cX4_spellsByte.data.toList.drop 0 = dktX4_spellsByte_0 := by decide +kernel
theorem dX4_spellsByte_0 : decode cX4_spellsByte 0 = .ok (.aload_n 0, 1) := dk_42 (dk_at dksX4_spellsByte_0 0 rfl rfl)
theorem dX4_spellsByte_1 : decode cX4_spellsByte 1 = .ok (.getfield 62, 3) := dk_180 0 62 (dk_at dksX4_spellsByte_0 1 rfl rfl)
theorem dX4_spellsByte_4 : decode cX4_spellsByte 4 = .ok (.aload_n 0, 1) := dk_42 (dk_at dksX4_spellsByte_0 4 rfl rfl)
theorem dX4_spellsByte_5 : decode cX4_spellsByte 5 = .ok (.getfield 342, 3) := dk_180 1 86 (dk_at dksX4_spellsByte_0 5 rfl rfl)
theorem dX4_spellsByte_8 : decode cX4_spellsByte 8 = .ok (.iload_n 1, 1) := dk_27 (dk_at dksX4_spellsByte_0 8 rfl rfl)
theorem dX4_spellsByte_9 : decode cX4_spellsByte 9 = .ok (.iastore, 1) := dk_79 (dk_at dksX4_spellsByte_0 9 rfl rfl)
theorem dX4_spellsByte_10 : decode cX4_spellsByte 10 = .ok (.aload_n 0, 1) := dk_42 (dk_at dksX4_spellsByte_0 10 rfl rfl)
theorem dX4_spellsByte_11 : decode cX4_spellsByte 11 = .ok (.dup, 1) := dk_89 (dk_at dksX4_spellsByte_0 11 rfl rfl)
theorem dX4_spellsByte_12 : decode cX4_spellsByte 12 = .ok (.getfield 342, 3) := dk_180 1 86 (dk_at dksX4_spellsByte_0 12 rfl rfl)
theorem dX4_spellsByte_15 : decode cX4_spellsByte 15 = .ok (.iconst 1, 1) := dk_4 (dk_at dksX4_spellsByte_0 15 rfl rfl)
theorem dX4_spellsByte_16 : decode cX4_spellsByte 16 = .ok (.iadd, 1) := dk_96 (dk_at dksX4_spellsByte_0 16 rfl rfl)
theorem dX4_spellsByte_17 : decode cX4_spellsByte 17 = .ok (.putfield 342, 3) := dk_181 1 86 (dk_at dksX4_spellsByte_0 17 rfl rfl)
theorem dX4_spellsByte_20 : decode cX4_spellsByte 20 = .ok (.return_, 1) := dk_177 (dk_at dksX4_spellsByte_0 20 rfl rfl)
def dkwX4_spellsNumber_2 : List UInt8 := [167, 255, 234, 177]
abbrev dktX4_spellsNumber_2 : List UInt8 := dkwX4_spellsNumber_2 ++ []
def dkwX4_spellsNumber_1 : List UInt8 := [28, 158, 0, 24, 42, 16, 48, 27, 28, 108, 16, 10, 112, 96, 182, 1, 89, 28, 16, 10, 108, 61]
abbrev dktX4_spellsNumber_1 : List UInt8 := dkwX4_spellsNumber_1 ++ dktX4_spellsNumber_2
def dkwX4_spellsNumber_0 : List UInt8 := [42, 16, 32, 182, 1, 89, 4, 61, 28, 27, 16, 10, 108, 163, 0, 11, 28, 16, 10, 104, 61, 167, 255, 243]
abbrev dktX4_spellsNumber_0 : List UInt8 := dkwX4_spellsNumber_0 ++ dktX4_spellsNumber_1
theorem dksX4_spellsNumber_0 : cX4_spellsNumber.data.toList.drop 0 = dktX4_spellsNumber_0 := by decide +kernel
theorem dksX4_spellsNumber_1 : cX4_spellsNumber.data.toList.drop 24 = dktX4_spellsNumber_1 := dk_seg dksX4_spellsNumber_0 24 rfl rfl
theorem dksX4_spellsNumber_2 : cX4_spellsNumber.data.toList.drop 46 = dktX4_spellsNumber_2 := dk_seg dksX4_spellsNumber_1 22 rfl rfl
theorem dX4_spellsNumber_0 : decode cX4_spellsNumber 0 = .ok (.aload_n 0, 1) := dk_42 (dk_at dksX4_spellsNumber_0 0 rfl rfl)
theorem dX4_spellsNumber_1 : decode cX4_spellsNumber 1 = .ok (.bipush 32, 2) := dk_16 32 (dk_at dksX4_spellsNumber_0 1 rfl rfl)
theorem dX4_spellsNumber_3 : decode cX4_spellsNumber 3 = .ok (.invokevirtual 345, 3) := dk_182 1 89 (dk_at dksX4_spellsNumber_0 3 rfl rfl)
theorem dX4_spellsNumber_6 : decode cX4_spellsNumber 6 = .ok (.iconst 1, 1) := dk_4 (dk_at dksX4_spellsNumber_0 6 rfl rfl)
theorem dX4_spellsNumber_7 : decode cX4_spellsNumber 7 = .ok (.istore_n 2, 1) := dk_61 (dk_at dksX4_spellsNumber_0 7 rfl rfl)
theorem dX4_spellsNumber_8 : decode cX4_spellsNumber 8 = .ok (.iload_n 2, 1) := dk_28 (dk_at dksX4_spellsNumber_0 8 rfl rfl)
theorem dX4_spellsNumber_9 : decode cX4_spellsNumber 9 = .ok (.iload_n 1, 1) := dk_27 (dk_at dksX4_spellsNumber_0 9 rfl rfl)
theorem dX4_spellsNumber_10 : decode cX4_spellsNumber 10 = .ok (.bipush 10, 2) := dk_16 10 (dk_at dksX4_spellsNumber_0 10 rfl rfl)
theorem dX4_spellsNumber_12 : decode cX4_spellsNumber 12 = .ok (.idiv, 1) := dk_108 (dk_at dksX4_spellsNumber_0 12 rfl rfl)
theorem dX4_spellsNumber_13 : decode cX4_spellsNumber 13 = .ok (.if_icmp .gt 11, 3) := dk_163 0 11 (dk_at dksX4_spellsNumber_0 13 rfl rfl)
theorem dX4_spellsNumber_16 : decode cX4_spellsNumber 16 = .ok (.iload_n 2, 1) := dk_28 (dk_at dksX4_spellsNumber_0 16 rfl rfl)
theorem dX4_spellsNumber_17 : decode cX4_spellsNumber 17 = .ok (.bipush 10, 2) := dk_16 10 (dk_at dksX4_spellsNumber_0 17 rfl rfl)
theorem dX4_spellsNumber_19 : decode cX4_spellsNumber 19 = .ok (.imul, 1) := dk_104 (dk_at dksX4_spellsNumber_0 19 rfl rfl)
theorem dX4_spellsNumber_20 : decode cX4_spellsNumber 20 = .ok (.istore_n 2, 1) := dk_61 (dk_at dksX4_spellsNumber_0 20 rfl rfl)
theorem dX4_spellsNumber_21 : decode cX4_spellsNumber 21 = .ok (.goto (-13), 3) := dk_167 255 243 (dk_at dksX4_spellsNumber_0 21 rfl rfl)
theorem dX4_spellsNumber_24 : decode cX4_spellsNumber 24 = .ok (.iload_n 2, 1) := dk_28 (dk_at dksX4_spellsNumber_1 0 rfl rfl)
theorem dX4_spellsNumber_25 : decode cX4_spellsNumber 25 = .ok (.ifCond .le 24, 3) := dk_158 0 24 (dk_at dksX4_spellsNumber_1 1 rfl rfl)
theorem dX4_spellsNumber_28 : decode cX4_spellsNumber 28 = .ok (.aload_n 0, 1) := dk_42 (dk_at dksX4_spellsNumber_1 4 rfl rfl)
theorem dX4_spellsNumber_29 : decode cX4_spellsNumber 29 = .ok (.bipush 48, 2) := dk_16 48 (dk_at dksX4_spellsNumber_1 5 rfl rfl)
theorem dX4_spellsNumber_31 : decode cX4_spellsNumber 31 = .ok (.iload_n 1, 1) := dk_27 (dk_at dksX4_spellsNumber_1 7 rfl rfl)
theorem dX4_spellsNumber_32 : decode cX4_spellsNumber 32 = .ok (.iload_n 2, 1) := dk_28 (dk_at dksX4_spellsNumber_1 8 rfl rfl)
theorem dX4_spellsNumber_33 : decode cX4_spellsNumber 33 = .ok (.idiv, 1) := dk_108 (dk_at dksX4_spellsNumber_1 9 rfl rfl)
theorem dX4_spellsNumber_34 : decode cX4_spellsNumber 34 = .ok (.bipush 10, 2) := dk_16 10 (dk_at dksX4_spellsNumber_1 10 rfl rfl)
theorem dX4_spellsNumber_36 : decode cX4_spellsNumber 36 = .ok (.irem, 1) := dk_112 (dk_at dksX4_spellsNumber_1 12 rfl rfl)
theorem dX4_spellsNumber_37 : decode cX4_spellsNumber 37 = .ok (.iadd, 1) := dk_96 (dk_at dksX4_spellsNumber_1 13 rfl rfl)
theorem dX4_spellsNumber_38 : decode cX4_spellsNumber 38 = .ok (.invokevirtual 345, 3) := dk_182 1 89 (dk_at dksX4_spellsNumber_1 14 rfl rfl)
theorem dX4_spellsNumber_41 : decode cX4_spellsNumber 41 = .ok (.iload_n 2, 1) := dk_28 (dk_at dksX4_spellsNumber_1 17 rfl rfl)
theorem dX4_spellsNumber_42 : decode cX4_spellsNumber 42 = .ok (.bipush 10, 2) := dk_16 10 (dk_at dksX4_spellsNumber_1 18 rfl rfl)
theorem dX4_spellsNumber_44 : decode cX4_spellsNumber 44 = .ok (.idiv, 1) := dk_108 (dk_at dksX4_spellsNumber_1 20 rfl rfl)
theorem dX4_spellsNumber_45 : decode cX4_spellsNumber 45 = .ok (.istore_n 2, 1) := dk_61 (dk_at dksX4_spellsNumber_1 21 rfl rfl)
theorem dX4_spellsNumber_46 : decode cX4_spellsNumber 46 = .ok (.goto (-22), 3) := dk_167 255 234 (dk_at dksX4_spellsNumber_2 0 rfl rfl)
theorem dX4_spellsNumber_49 : decode cX4_spellsNumber 49 = .ok (.return_, 1) := dk_177 (dk_at dksX4_spellsNumber_2 3 rfl rfl)
def dkwX4_spellsHouses_6 : List UInt8 := [182, 1, 96, 42, 16, 59, 182, 1, 89, 132, 2, 1, 167, 255, 201, 132, 1, 1, 167, 255, 183, 177]
abbrev dktX4_spellsHouses_6 : List UInt8 := dkwX4_spellsHouses_6 ++ []
def dkwX4_spellsHouses_5 : List UInt8 := [20, 0, 137, 182, 1, 92, 42, 27, 182, 1, 96, 42, 28, 182, 1, 96, 42, 42, 27, 28, 182, 0, 181]
abbrev dktX4_spellsHouses_5 : List UInt8 := dkwX4_spellsHouses_5 ++ dktX4_spellsHouses_6
def dkwX4_spellsHouses_4 : List UInt8 := [3, 61, 28, 42, 180, 0, 7, 4, 46, 162, 0, 51, 42, 27, 28, 182, 0, 181, 158, 0, 36, 42]
abbrev dktX4_spellsHouses_4 : List UInt8 := dkwX4_spellsHouses_4 ++ dktX4_spellsHouses_5
def dkwX4_spellsHouses_3 : List UInt8 := [42, 16, 59, 182, 1, 89, 132, 1, 1, 167, 255, 179, 3, 60, 27, 42, 180, 0, 7, 4, 46, 162, 0, 69]
abbrev dktX4_spellsHouses_3 : List UInt8 := dkwX4_spellsHouses_3 ++ dktX4_spellsHouses_4
def dkwX4_spellsHouses_2 : List UInt8 := [180, 0, 7, 3, 46, 162, 0, 19, 42, 42, 27, 28, 182, 0, 72, 182, 1, 96, 132, 2, 1, 167, 255, 233]
abbrev dktX4_spellsHouses_2 : List UInt8 := dkwX4_spellsHouses_2 ++ dktX4_spellsHouses_3
def dkwX4_spellsHouses_1 : List UInt8 := [162, 0, 19, 42, 42, 27, 28, 182, 0, 175, 182, 1, 96, 132, 2, 1, 167, 255, 238, 3, 61, 28, 42]
abbrev dktX4_spellsHouses_1 : List UInt8 := dkwX4_spellsHouses_1 ++ dktX4_spellsHouses_2
def dkwX4_spellsHouses_0 : List UInt8 := [3, 60, 27, 42, 180, 0, 7, 4, 46, 162, 0, 73, 42, 20, 0, 132, 182, 1, 92, 3, 61, 28, 8]
abbrev dktX4_spellsHouses_0 : List UInt8 := dkwX4_spellsHouses_0 ++ dktX4_spellsHouses_1
theorem dksX4_spellsHouses_0 : cX4_spellsHouses.data.toList.drop 0 = dktX4_spellsHouses_0 := by decide +kernel
theorem dksX4_spellsHouses_1 : cX4_spellsHouses.data.toList.drop 23 = dktX4_spellsHouses_1 := dk_seg dksX4_spellsHouses_0 23 rfl rfl
theorem dksX4_spellsHouses_2 : cX4_spellsHouses.data.toList.drop 46 = dktX4_spellsHouses_2 := dk_seg dksX4_spellsHouses_1 23 rfl rfl
theorem dksX4_spellsHouses_3 : cX4_spellsHouses.data.toList.drop 70 = dktX4_spellsHouses_3 := dk_seg dksX4_spellsHouses_2 24 rfl rfl
theorem dksX4_spellsHouses_4 : cX4_spellsHouses.data.toList.drop 94 = dktX4_spellsHouses_4 := dk_seg dksX4_spellsHouses_3 24 rfl rfl
theorem dksX4_spellsHouses_5 : cX4_spellsHouses.data.toList.drop 116 = dktX4_spellsHouses_5 := dk_seg dksX4_spellsHouses_4 22 rfl rfl
theorem dksX4_spellsHouses_6 : cX4_spellsHouses.data.toList.drop 139 = dktX4_spellsHouses_6 := dk_seg dksX4_spellsHouses_5 23 rfl rfl
theorem dX4_spellsHouses_0 : decode cX4_spellsHouses 0 = .ok (.iconst 0, 1) := dk_3 (dk_at dksX4_spellsHouses_0 0 rfl rfl)
theorem dX4_spellsHouses_1 : decode cX4_spellsHouses 1 = .ok (.istore_n 1, 1) := dk_60 (dk_at dksX4_spellsHouses_0 1 rfl rfl)
theorem dX4_spellsHouses_2 : decode cX4_spellsHouses 2 = .ok (.iload_n 1, 1) := dk_27 (dk_at dksX4_spellsHouses_0 2 rfl rfl)
theorem dX4_spellsHouses_3 : decode cX4_spellsHouses 3 = .ok (.aload_n 0, 1) := dk_42 (dk_at dksX4_spellsHouses_0 3 rfl rfl)
theorem dX4_spellsHouses_4 : decode cX4_spellsHouses 4 = .ok (.getfield 7, 3) := dk_180 0 7 (dk_at dksX4_spellsHouses_0 4 rfl rfl)
theorem dX4_spellsHouses_7 : decode cX4_spellsHouses 7 = .ok (.iconst 1, 1) := dk_4 (dk_at dksX4_spellsHouses_0 7 rfl rfl)
theorem dX4_spellsHouses_8 : decode cX4_spellsHouses 8 = .ok (.iaload, 1) := dk_46 (dk_at dksX4_spellsHouses_0 8 rfl rfl)
theorem dX4_spellsHouses_9 : decode cX4_spellsHouses 9 = .ok (.if_icmp .ge 73, 3) := dk_162 0 73 (dk_at dksX4_spellsHouses_0 9 rfl rfl)
theorem dX4_spellsHouses_12 : decode cX4_spellsHouses 12 = .ok (.aload_n 0, 1) := dk_42 (dk_at dksX4_spellsHouses_0 12 rfl rfl)
theorem dX4_spellsHouses_13 : decode cX4_spellsHouses 13 = .ok (.ldc2_w 132, 3) := dk_20 0 132 (dk_at dksX4_spellsHouses_0 13 rfl rfl)
theorem dX4_spellsHouses_16 : decode cX4_spellsHouses 16 = .ok (.invokevirtual 348, 3) := dk_182 1 92 (dk_at dksX4_spellsHouses_0 16 rfl rfl)
theorem dX4_spellsHouses_19 : decode cX4_spellsHouses 19 = .ok (.iconst 0, 1) := dk_3 (dk_at dksX4_spellsHouses_0 19 rfl rfl)
theorem dX4_spellsHouses_20 : decode cX4_spellsHouses 20 = .ok (.istore_n 2, 1) := dk_61 (dk_at dksX4_spellsHouses_0 20 rfl rfl)
theorem dX4_spellsHouses_21 : decode cX4_spellsHouses 21 = .ok (.iload_n 2, 1) := dk_28 (dk_at dksX4_spellsHouses_0 21 rfl rfl)
theorem dX4_spellsHouses_22 : decode cX4_spellsHouses 22 = .ok (.iconst 5, 1) := dk_8 (dk_at dksX4_spellsHouses_0 22 rfl rfl)
theorem dX4_spellsHouses_23 : decode cX4_spellsHouses 23 = .ok (.if_icmp .ge 19, 3) := dk_162 0 19 (dk_at dksX4_spellsHouses_1 0 rfl rfl)
theorem dX4_spellsHouses_26 : decode cX4_spellsHouses 26 = .ok (.aload_n 0, 1) := dk_42 (dk_at dksX4_spellsHouses_1 3 rfl rfl)
theorem dX4_spellsHouses_27 : decode cX4_spellsHouses 27 = .ok (.aload_n 0, 1) := dk_42 (dk_at dksX4_spellsHouses_1 4 rfl rfl)
theorem dX4_spellsHouses_28 : decode cX4_spellsHouses 28 = .ok (.iload_n 1, 1) := dk_27 (dk_at dksX4_spellsHouses_1 5 rfl rfl)
theorem dX4_spellsHouses_29 : decode cX4_spellsHouses 29 = .ok (.iload_n 2, 1) := dk_28 (dk_at dksX4_spellsHouses_1 6 rfl rfl)
theorem dX4_spellsHouses_30 : decode cX4_spellsHouses 30 = .ok (.invokevirtual 175, 3) := dk_182 0 175 (dk_at dksX4_spellsHouses_1 7 rfl rfl)
theorem dX4_spellsHouses_33 : decode cX4_spellsHouses 33 = .ok (.invokevirtual 352, 3) := dk_182 1 96 (dk_at dksX4_spellsHouses_1 10 rfl rfl)
theorem dX4_spellsHouses_36 : decode cX4_spellsHouses 36 = .ok (.iinc 2 1, 3) := dk_132 2 1 (dk_at dksX4_spellsHouses_1 13 rfl rfl)
theorem dX4_spellsHouses_39 : decode cX4_spellsHouses 39 = .ok (.goto (-18), 3) := dk_167 255 238 (dk_at dksX4_spellsHouses_1 16 rfl rfl)
theorem dX4_spellsHouses_42 : decode cX4_spellsHouses 42 = .ok (.iconst 0, 1) := dk_3 (dk_at dksX4_spellsHouses_1 19 rfl rfl)
theorem dX4_spellsHouses_43 : decode cX4_spellsHouses 43 = .ok (.istore_n 2, 1) := dk_61 (dk_at dksX4_spellsHouses_1 20 rfl rfl)
theorem dX4_spellsHouses_44 : decode cX4_spellsHouses 44 = .ok (.iload_n 2, 1) := dk_28 (dk_at dksX4_spellsHouses_1 21 rfl rfl)
theorem dX4_spellsHouses_45 : decode cX4_spellsHouses 45 = .ok (.aload_n 0, 1) := dk_42 (dk_at dksX4_spellsHouses_1 22 rfl rfl)
theorem dX4_spellsHouses_46 : decode cX4_spellsHouses 46 = .ok (.getfield 7, 3) := dk_180 0 7 (dk_at dksX4_spellsHouses_2 0 rfl rfl)
theorem dX4_spellsHouses_49 : decode cX4_spellsHouses 49 = .ok (.iconst 0, 1) := dk_3 (dk_at dksX4_spellsHouses_2 3 rfl rfl)
theorem dX4_spellsHouses_50 : decode cX4_spellsHouses 50 = .ok (.iaload, 1) := dk_46 (dk_at dksX4_spellsHouses_2 4 rfl rfl)
theorem dX4_spellsHouses_51 : decode cX4_spellsHouses 51 = .ok (.if_icmp .ge 19, 3) := dk_162 0 19 (dk_at dksX4_spellsHouses_2 5 rfl rfl)
theorem dX4_spellsHouses_54 : decode cX4_spellsHouses 54 = .ok (.aload_n 0, 1) := dk_42 (dk_at dksX4_spellsHouses_2 8 rfl rfl)
theorem dX4_spellsHouses_55 : decode cX4_spellsHouses 55 = .ok (.aload_n 0, 1) := dk_42 (dk_at dksX4_spellsHouses_2 9 rfl rfl)
theorem dX4_spellsHouses_56 : decode cX4_spellsHouses 56 = .ok (.iload_n 1, 1) := dk_27 (dk_at dksX4_spellsHouses_2 10 rfl rfl)
theorem dX4_spellsHouses_57 : decode cX4_spellsHouses 57 = .ok (.iload_n 2, 1) := dk_28 (dk_at dksX4_spellsHouses_2 11 rfl rfl)
theorem dX4_spellsHouses_58 : decode cX4_spellsHouses 58 = .ok (.invokevirtual 72, 3) := dk_182 0 72 (dk_at dksX4_spellsHouses_2 12 rfl rfl)
theorem dX4_spellsHouses_61 : decode cX4_spellsHouses 61 = .ok (.invokevirtual 352, 3) := dk_182 1 96 (dk_at dksX4_spellsHouses_2 15 rfl rfl)
theorem dX4_spellsHouses_64 : decode cX4_spellsHouses 64 = .ok (.iinc 2 1, 3) := dk_132 2 1 (dk_at dksX4_spellsHouses_2 18 rfl rfl)
theorem dX4_spellsHouses_67 : decode cX4_spellsHouses 67 = .ok (.goto (-23), 3) := dk_167 255 233 (dk_at dksX4_spellsHouses_2 21 rfl rfl)
theorem dX4_spellsHouses_70 : decode cX4_spellsHouses 70 = .ok (.aload_n 0, 1) := dk_42 (dk_at dksX4_spellsHouses_3 0 rfl rfl)
theorem dX4_spellsHouses_71 : decode cX4_spellsHouses 71 = .ok (.bipush 59, 2) := dk_16 59 (dk_at dksX4_spellsHouses_3 1 rfl rfl)
theorem dX4_spellsHouses_73 : decode cX4_spellsHouses 73 = .ok (.invokevirtual 345, 3) := dk_182 1 89 (dk_at dksX4_spellsHouses_3 3 rfl rfl)
theorem dX4_spellsHouses_76 : decode cX4_spellsHouses 76 = .ok (.iinc 1 1, 3) := dk_132 1 1 (dk_at dksX4_spellsHouses_3 6 rfl rfl)
theorem dX4_spellsHouses_79 : decode cX4_spellsHouses 79 = .ok (.goto (-77), 3) := dk_167 255 179 (dk_at dksX4_spellsHouses_3 9 rfl rfl)
theorem dX4_spellsHouses_82 : decode cX4_spellsHouses 82 = .ok (.iconst 0, 1) := dk_3 (dk_at dksX4_spellsHouses_3 12 rfl rfl)
theorem dX4_spellsHouses_83 : decode cX4_spellsHouses 83 = .ok (.istore_n 1, 1) := dk_60 (dk_at dksX4_spellsHouses_3 13 rfl rfl)
theorem dX4_spellsHouses_84 : decode cX4_spellsHouses 84 = .ok (.iload_n 1, 1) := dk_27 (dk_at dksX4_spellsHouses_3 14 rfl rfl)
theorem dX4_spellsHouses_85 : decode cX4_spellsHouses 85 = .ok (.aload_n 0, 1) := dk_42 (dk_at dksX4_spellsHouses_3 15 rfl rfl)
theorem dX4_spellsHouses_86 : decode cX4_spellsHouses 86 = .ok (.getfield 7, 3) := dk_180 0 7 (dk_at dksX4_spellsHouses_3 16 rfl rfl)
theorem dX4_spellsHouses_89 : decode cX4_spellsHouses 89 = .ok (.iconst 1, 1) := dk_4 (dk_at dksX4_spellsHouses_3 19 rfl rfl)
theorem dX4_spellsHouses_90 : decode cX4_spellsHouses 90 = .ok (.iaload, 1) := dk_46 (dk_at dksX4_spellsHouses_3 20 rfl rfl)
theorem dX4_spellsHouses_91 : decode cX4_spellsHouses 91 = .ok (.if_icmp .ge 69, 3) := dk_162 0 69 (dk_at dksX4_spellsHouses_3 21 rfl rfl)
theorem dX4_spellsHouses_94 : decode cX4_spellsHouses 94 = .ok (.iconst 0, 1) := dk_3 (dk_at dksX4_spellsHouses_4 0 rfl rfl)
theorem dX4_spellsHouses_95 : decode cX4_spellsHouses 95 = .ok (.istore_n 2, 1) := dk_61 (dk_at dksX4_spellsHouses_4 1 rfl rfl)
theorem dX4_spellsHouses_96 : decode cX4_spellsHouses 96 = .ok (.iload_n 2, 1) := dk_28 (dk_at dksX4_spellsHouses_4 2 rfl rfl)
theorem dX4_spellsHouses_97 : decode cX4_spellsHouses 97 = .ok (.aload_n 0, 1) := dk_42 (dk_at dksX4_spellsHouses_4 3 rfl rfl)
theorem dX4_spellsHouses_98 : decode cX4_spellsHouses 98 = .ok (.getfield 7, 3) := dk_180 0 7 (dk_at dksX4_spellsHouses_4 4 rfl rfl)
theorem dX4_spellsHouses_101 : decode cX4_spellsHouses 101 = .ok (.iconst 1, 1) := dk_4 (dk_at dksX4_spellsHouses_4 7 rfl rfl)
theorem dX4_spellsHouses_102 : decode cX4_spellsHouses 102 = .ok (.iaload, 1) := dk_46 (dk_at dksX4_spellsHouses_4 8 rfl rfl)
theorem dX4_spellsHouses_103 : decode cX4_spellsHouses 103 = .ok (.if_icmp .ge 51, 3) := dk_162 0 51 (dk_at dksX4_spellsHouses_4 9 rfl rfl)
theorem dX4_spellsHouses_106 : decode cX4_spellsHouses 106 = .ok (.aload_n 0, 1) := dk_42 (dk_at dksX4_spellsHouses_4 12 rfl rfl)
theorem dX4_spellsHouses_107 : decode cX4_spellsHouses 107 = .ok (.iload_n 1, 1) := dk_27 (dk_at dksX4_spellsHouses_4 13 rfl rfl)
theorem dX4_spellsHouses_108 : decode cX4_spellsHouses 108 = .ok (.iload_n 2, 1) := dk_28 (dk_at dksX4_spellsHouses_4 14 rfl rfl)
theorem dX4_spellsHouses_109 : decode cX4_spellsHouses 109 = .ok (.invokevirtual 181, 3) := dk_182 0 181 (dk_at dksX4_spellsHouses_4 15 rfl rfl)
theorem dX4_spellsHouses_112 : decode cX4_spellsHouses 112 = .ok (.ifCond .le 36, 3) := dk_158 0 36 (dk_at dksX4_spellsHouses_4 18 rfl rfl)
theorem dX4_spellsHouses_115 : decode cX4_spellsHouses 115 = .ok (.aload_n 0, 1) := dk_42 (dk_at dksX4_spellsHouses_4 21 rfl rfl)
theorem dX4_spellsHouses_116 : decode cX4_spellsHouses 116 = .ok (.ldc2_w 137, 3) := dk_20 0 137 (dk_at dksX4_spellsHouses_5 0 rfl rfl)
theorem dX4_spellsHouses_119 : decode cX4_spellsHouses 119 = .ok (.invokevirtual 348, 3) := dk_182 1 92 (dk_at dksX4_spellsHouses_5 3 rfl rfl)
theorem dX4_spellsHouses_122 : decode cX4_spellsHouses 122 = .ok (.aload_n 0, 1) := dk_42 (dk_at dksX4_spellsHouses_5 6 rfl rfl)
theorem dX4_spellsHouses_123 : decode cX4_spellsHouses 123 = .ok (.iload_n 1, 1) := dk_27 (dk_at dksX4_spellsHouses_5 7 rfl rfl)
theorem dX4_spellsHouses_124 : decode cX4_spellsHouses 124 = .ok (.invokevirtual 352, 3) := dk_182 1 96 (dk_at dksX4_spellsHouses_5 8 rfl rfl)
theorem dX4_spellsHouses_127 : decode cX4_spellsHouses 127 = .ok (.aload_n 0, 1) := dk_42 (dk_at dksX4_spellsHouses_5 11 rfl rfl)
theorem dX4_spellsHouses_128 : decode cX4_spellsHouses 128 = .ok (.iload_n 2, 1) := dk_28 (dk_at dksX4_spellsHouses_5 12 rfl rfl)
theorem dX4_spellsHouses_129 : decode cX4_spellsHouses 129 = .ok (.invokevirtual 352, 3) := dk_182 1 96 (dk_at dksX4_spellsHouses_5 13 rfl rfl)
theorem dX4_spellsHouses_132 : decode cX4_spellsHouses 132 = .ok (.aload_n 0, 1) := dk_42 (dk_at dksX4_spellsHouses_5 16 rfl rfl)
theorem dX4_spellsHouses_133 : decode cX4_spellsHouses 133 = .ok (.aload_n 0, 1) := dk_42 (dk_at dksX4_spellsHouses_5 17 rfl rfl)
theorem dX4_spellsHouses_134 : decode cX4_spellsHouses 134 = .ok (.iload_n 1, 1) := dk_27 (dk_at dksX4_spellsHouses_5 18 rfl rfl)
theorem dX4_spellsHouses_135 : decode cX4_spellsHouses 135 = .ok (.iload_n 2, 1) := dk_28 (dk_at dksX4_spellsHouses_5 19 rfl rfl)
theorem dX4_spellsHouses_136 : decode cX4_spellsHouses 136 = .ok (.invokevirtual 181, 3) := dk_182 0 181 (dk_at dksX4_spellsHouses_5 20 rfl rfl)
theorem dX4_spellsHouses_139 : decode cX4_spellsHouses 139 = .ok (.invokevirtual 352, 3) := dk_182 1 96 (dk_at dksX4_spellsHouses_6 0 rfl rfl)
theorem dX4_spellsHouses_142 : decode cX4_spellsHouses 142 = .ok (.aload_n 0, 1) := dk_42 (dk_at dksX4_spellsHouses_6 3 rfl rfl)
theorem dX4_spellsHouses_143 : decode cX4_spellsHouses 143 = .ok (.bipush 59, 2) := dk_16 59 (dk_at dksX4_spellsHouses_6 4 rfl rfl)
theorem dX4_spellsHouses_145 : decode cX4_spellsHouses 145 = .ok (.invokevirtual 345, 3) := dk_182 1 89 (dk_at dksX4_spellsHouses_6 6 rfl rfl)
theorem dX4_spellsHouses_148 : decode cX4_spellsHouses 148 = .ok (.iinc 2 1, 3) := dk_132 2 1 (dk_at dksX4_spellsHouses_6 9 rfl rfl)
theorem dX4_spellsHouses_151 : decode cX4_spellsHouses 151 = .ok (.goto (-55), 3) := dk_167 255 201 (dk_at dksX4_spellsHouses_6 12 rfl rfl)
theorem dX4_spellsHouses_154 : decode cX4_spellsHouses 154 = .ok (.iinc 1 1, 3) := dk_132 1 1 (dk_at dksX4_spellsHouses_6 15 rfl rfl)
theorem dX4_spellsHouses_157 : decode cX4_spellsHouses 157 = .ok (.goto (-73), 3) := dk_167 255 183 (dk_at dksX4_spellsHouses_6 18 rfl rfl)
theorem dX4_spellsHouses_160 : decode cX4_spellsHouses 160 = .ok (.return_, 1) := dk_177 (dk_at dksX4_spellsHouses_6 21 rfl rfl)
def dkwX4_count_4 : List UInt8 := [182, 0, 205, 42, 4, 182, 0, 205, 96, 42, 5, 182, 0, 205, 96, 42, 6, 182, 0, 205, 96, 172, 2, 172]
abbrev dktX4_count_4 : List UInt8 := dkwX4_count_4 ++ []
def dkwX4_count_3 : List UInt8 := [42, 180, 0, 7, 16, 100, 16, 13, 27, 7, 100, 104, 96, 46, 172, 42, 182, 1, 102, 172, 42, 3]
abbrev dktX4_count_3 : List UInt8 := dkwX4_count_3 ++ dktX4_count_4
def dkwX4_count_2 : List UInt8 := [42, 180, 0, 7, 3, 46, 172, 42, 180, 0, 7, 4, 46, 172, 42, 180, 0, 152, 172, 42, 180, 0, 76, 172]
abbrev dktX4_count_2 : List UInt8 := dkwX4_count_2 ++ dktX4_count_3
def dkwX4_count_1 : List UInt8 := [170, 0, 0, 0, 0, 0, 119, 0, 0, 0, 0, 0, 0, 0, 8, 0, 0, 0, 51, 0, 0, 0, 58, 0, 0, 0, 65, 0, 0, 0, 70, 0, 0, 0, 75, 0, 0, 0, 75, 0, 0, 0, 75, 0, 0, 0, 90, 0, 0, 0, 95]
abbrev dktX4_count_1 : List UInt8 := dkwX4_count_1 ++ dktX4_count_2
def dkwX4_count_0 : List UInt8 := [27]
abbrev dktX4_count_0 : List UInt8 := dkwX4_count_0 ++ dktX4_count_1
theorem dksX4_count_0 : cX4_count.data.toList.drop 0 = dktX4_count_0 := by decide +kernel
theorem dksX4_count_1 : cX4_count.data.toList.drop 1 = dktX4_count_1 := dk_seg dksX4_count_0 1 rfl rfl
theorem dksX4_count_2 : cX4_count.data.toList.drop 52 = dktX4_count_2 := dk_seg dksX4_count_1 51 rfl rfl
theorem dksX4_count_3 : cX4_count.data.toList.drop 76 = dktX4_count_3 := dk_seg dksX4_count_2 24 rfl rfl
theorem dksX4_count_4 : cX4_count.data.toList.drop 98 = dktX4_count_4 := dk_seg dksX4_count_3 22 rfl rfl
theorem dX4_count_0 : decode cX4_count 0 = .ok (.iload_n 1, 1) := dk_27 (dk_at dksX4_count_0 0 rfl rfl)
theorem dX4_count_1 : decode cX4_count 1 = .ok (.tableswitch 119 0 8 #[51, 58, 65, 70, 75, 75, 75, 90, 95], 51) := by decide +kernel
theorem dX4_count_52 : decode cX4_count 52 = .ok (.aload_n 0, 1) := dk_42 (dk_at dksX4_count_2 0 rfl rfl)
theorem dX4_count_53 : decode cX4_count 53 = .ok (.getfield 7, 3) := dk_180 0 7 (dk_at dksX4_count_2 1 rfl rfl)
theorem dX4_count_56 : decode cX4_count 56 = .ok (.iconst 0, 1) := dk_3 (dk_at dksX4_count_2 4 rfl rfl)
theorem dX4_count_57 : decode cX4_count 57 = .ok (.iaload, 1) := dk_46 (dk_at dksX4_count_2 5 rfl rfl)
theorem dX4_count_58 : decode cX4_count 58 = .ok (.ireturn, 1) := dk_172 (dk_at dksX4_count_2 6 rfl rfl)
theorem dX4_count_59 : decode cX4_count 59 = .ok (.aload_n 0, 1) := dk_42 (dk_at dksX4_count_2 7 rfl rfl)
theorem dX4_count_60 : decode cX4_count 60 = .ok (.getfield 7, 3) := dk_180 0 7 (dk_at dksX4_count_2 8 rfl rfl)
theorem dX4_count_63 : decode cX4_count 63 = .ok (.iconst 1, 1) := dk_4 (dk_at dksX4_count_2 11 rfl rfl)
theorem dX4_count_64 : decode cX4_count 64 = .ok (.iaload, 1) := dk_46 (dk_at dksX4_count_2 12 rfl rfl)
theorem dX4_count_65 : decode cX4_count 65 = .ok (.ireturn, 1) := dk_172 (dk_at dksX4_count_2 13 rfl rfl)
theorem dX4_count_66 : decode cX4_count 66 = .ok (.aload_n 0, 1) := dk_42 (dk_at dksX4_count_2 14 rfl rfl)
theorem dX4_count_67 : decode cX4_count 67 = .ok (.getfield 152, 3) := dk_180 0 152 (dk_at dksX4_count_2 15 rfl rfl)
theorem dX4_count_70 : decode cX4_count 70 = .ok (.ireturn, 1) := dk_172 (dk_at dksX4_count_2 18 rfl rfl)
theorem dX4_count_71 : decode cX4_count 71 = .ok (.aload_n 0, 1) := dk_42 (dk_at dksX4_count_2 19 rfl rfl)
theorem dX4_count_72 : decode cX4_count 72 = .ok (.getfield 76, 3) := dk_180 0 76 (dk_at dksX4_count_2 20 rfl rfl)
theorem dX4_count_75 : decode cX4_count 75 = .ok (.ireturn, 1) := dk_172 (dk_at dksX4_count_2 23 rfl rfl)
theorem dX4_count_76 : decode cX4_count 76 = .ok (.aload_n 0, 1) := dk_42 (dk_at dksX4_count_3 0 rfl rfl)
theorem dX4_count_77 : decode cX4_count 77 = .ok (.getfield 7, 3) := dk_180 0 7 (dk_at dksX4_count_3 1 rfl rfl)
theorem dX4_count_80 : decode cX4_count 80 = .ok (.bipush 100, 2) := dk_16 100 (dk_at dksX4_count_3 4 rfl rfl)
theorem dX4_count_82 : decode cX4_count 82 = .ok (.bipush 13, 2) := dk_16 13 (dk_at dksX4_count_3 6 rfl rfl)
theorem dX4_count_84 : decode cX4_count 84 = .ok (.iload_n 1, 1) := dk_27 (dk_at dksX4_count_3 8 rfl rfl)
theorem dX4_count_85 : decode cX4_count 85 = .ok (.iconst 4, 1) := dk_7 (dk_at dksX4_count_3 9 rfl rfl)
theorem dX4_count_86 : decode cX4_count 86 = .ok (.isub, 1) := dk_100 (dk_at dksX4_count_3 10 rfl rfl)
theorem dX4_count_87 : decode cX4_count 87 = .ok (.imul, 1) := dk_104 (dk_at dksX4_count_3 11 rfl rfl)
theorem dX4_count_88 : decode cX4_count 88 = .ok (.iadd, 1) := dk_96 (dk_at dksX4_count_3 12 rfl rfl)
theorem dX4_count_89 : decode cX4_count 89 = .ok (.iaload, 1) := dk_46 (dk_at dksX4_count_3 13 rfl rfl)
theorem dX4_count_90 : decode cX4_count 90 = .ok (.ireturn, 1) := dk_172 (dk_at dksX4_count_3 14 rfl rfl)
theorem dX4_count_91 : decode cX4_count 91 = .ok (.aload_n 0, 1) := dk_42 (dk_at dksX4_count_3 15 rfl rfl)
theorem dX4_count_92 : decode cX4_count 92 = .ok (.invokevirtual 358, 3) := dk_182 1 102 (dk_at dksX4_count_3 16 rfl rfl)
theorem dX4_count_95 : decode cX4_count 95 = .ok (.ireturn, 1) := dk_172 (dk_at dksX4_count_3 19 rfl rfl)
theorem dX4_count_96 : decode cX4_count 96 = .ok (.aload_n 0, 1) := dk_42 (dk_at dksX4_count_3 20 rfl rfl)
theorem dX4_count_97 : decode cX4_count 97 = .ok (.iconst 0, 1) := dk_3 (dk_at dksX4_count_3 21 rfl rfl)
theorem dX4_count_98 : decode cX4_count 98 = .ok (.invokevirtual 205, 3) := dk_182 0 205 (dk_at dksX4_count_4 0 rfl rfl)
theorem dX4_count_101 : decode cX4_count 101 = .ok (.aload_n 0, 1) := dk_42 (dk_at dksX4_count_4 3 rfl rfl)
theorem dX4_count_102 : decode cX4_count 102 = .ok (.iconst 1, 1) := dk_4 (dk_at dksX4_count_4 4 rfl rfl)
theorem dX4_count_103 : decode cX4_count 103 = .ok (.invokevirtual 205, 3) := dk_182 0 205 (dk_at dksX4_count_4 5 rfl rfl)
theorem dX4_count_106 : decode cX4_count 106 = .ok (.iadd, 1) := dk_96 (dk_at dksX4_count_4 8 rfl rfl)
theorem dX4_count_107 : decode cX4_count 107 = .ok (.aload_n 0, 1) := dk_42 (dk_at dksX4_count_4 9 rfl rfl)
theorem dX4_count_108 : decode cX4_count 108 = .ok (.iconst 2, 1) := dk_5 (dk_at dksX4_count_4 10 rfl rfl)
theorem dX4_count_109 : decode cX4_count 109 = .ok (.invokevirtual 205, 3) := dk_182 0 205 (dk_at dksX4_count_4 11 rfl rfl)
theorem dX4_count_112 : decode cX4_count 112 = .ok (.iadd, 1) := dk_96 (dk_at dksX4_count_4 14 rfl rfl)
theorem dX4_count_113 : decode cX4_count 113 = .ok (.aload_n 0, 1) := dk_42 (dk_at dksX4_count_4 15 rfl rfl)
theorem dX4_count_114 : decode cX4_count 114 = .ok (.iconst 3, 1) := dk_6 (dk_at dksX4_count_4 16 rfl rfl)
theorem dX4_count_115 : decode cX4_count 115 = .ok (.invokevirtual 205, 3) := dk_182 0 205 (dk_at dksX4_count_4 17 rfl rfl)
theorem dX4_count_118 : decode cX4_count 118 = .ok (.iadd, 1) := dk_96 (dk_at dksX4_count_4 20 rfl rfl)
theorem dX4_count_119 : decode cX4_count 119 = .ok (.ireturn, 1) := dk_172 (dk_at dksX4_count_4 21 rfl rfl)
theorem dX4_count_120 : decode cX4_count 120 = .ok (.iconst (-1), 1) := dk_2 (dk_at dksX4_count_4 22 rfl rfl)
theorem dX4_count_121 : decode cX4_count 121 = .ok (.ireturn, 1) := dk_172 (dk_at dksX4_count_4 23 rfl rfl)
def dkwX4_loans_1 : List UInt8 := [167, 0, 4, 3, 96, 60, 132, 2, 1, 167, 255, 227, 27, 172]
abbrev dktX4_loans_1 : List UInt8 := dkwX4_loans_1 ++ []
def dkwX4_loans_0 : List UInt8 := [3, 60, 3, 61, 28, 16, 36, 162, 0, 29, 27, 42, 180, 0, 7, 16, 64, 28, 96, 46, 158, 0, 7, 4]
abbrev dktX4_loans_0 : List UInt8 := dkwX4_loans_0 ++ dktX4_loans_1
theorem dksX4_loans_0 : cX4_loans.data.toList.drop 0 = dktX4_loans_0 := by decide +kernel
theorem dksX4_loans_1 : cX4_loans.data.toList.drop 24 = dktX4_loans_1 := dk_seg dksX4_loans_0 24 rfl rfl
theorem dX4_loans_0 : decode cX4_loans 0 = .ok (.iconst 0, 1) := dk_3 (dk_at dksX4_loans_0 0 rfl rfl)
theorem dX4_loans_1 : decode cX4_loans 1 = .ok (.istore_n 1, 1) := dk_60 (dk_at dksX4_loans_0 1 rfl rfl)
theorem dX4_loans_2 : decode cX4_loans 2 = .ok (.iconst 0, 1) := dk_3 (dk_at dksX4_loans_0 2 rfl rfl)
theorem dX4_loans_3 : decode cX4_loans 3 = .ok (.istore_n 2, 1) := dk_61 (dk_at dksX4_loans_0 3 rfl rfl)
theorem dX4_loans_4 : decode cX4_loans 4 = .ok (.iload_n 2, 1) := dk_28 (dk_at dksX4_loans_0 4 rfl rfl)
theorem dX4_loans_5 : decode cX4_loans 5 = .ok (.bipush 36, 2) := dk_16 36 (dk_at dksX4_loans_0 5 rfl rfl)
theorem dX4_loans_7 : decode cX4_loans 7 = .ok (.if_icmp .ge 29, 3) := dk_162 0 29 (dk_at dksX4_loans_0 7 rfl rfl)
theorem dX4_loans_10 : decode cX4_loans 10 = .ok (.iload_n 1, 1) := dk_27 (dk_at dksX4_loans_0 10 rfl rfl)
theorem dX4_loans_11 : decode cX4_loans 11 = .ok (.aload_n 0, 1) := dk_42 (dk_at dksX4_loans_0 11 rfl rfl)
theorem dX4_loans_12 : decode cX4_loans 12 = .ok (.getfield 7, 3) := dk_180 0 7 (dk_at dksX4_loans_0 12 rfl rfl)
theorem dX4_loans_15 : decode cX4_loans 15 = .ok (.bipush 64, 2) := dk_16 64 (dk_at dksX4_loans_0 15 rfl rfl)
theorem dX4_loans_17 : decode cX4_loans 17 = .ok (.iload_n 2, 1) := dk_28 (dk_at dksX4_loans_0 17 rfl rfl)
theorem dX4_loans_18 : decode cX4_loans 18 = .ok (.iadd, 1) := dk_96 (dk_at dksX4_loans_0 18 rfl rfl)
theorem dX4_loans_19 : decode cX4_loans 19 = .ok (.iaload, 1) := dk_46 (dk_at dksX4_loans_0 19 rfl rfl)
theorem dX4_loans_20 : decode cX4_loans 20 = .ok (.ifCond .le 7, 3) := dk_158 0 7 (dk_at dksX4_loans_0 20 rfl rfl)
theorem dX4_loans_23 : decode cX4_loans 23 = .ok (.iconst 1, 1) := dk_4 (dk_at dksX4_loans_0 23 rfl rfl)
theorem dX4_loans_24 : decode cX4_loans 24 = .ok (.goto 4, 3) := dk_167 0 4 (dk_at dksX4_loans_1 0 rfl rfl)
theorem dX4_loans_27 : decode cX4_loans 27 = .ok (.iconst 0, 1) := dk_3 (dk_at dksX4_loans_1 3 rfl rfl)
theorem dX4_loans_28 : decode cX4_loans 28 = .ok (.iadd, 1) := dk_96 (dk_at dksX4_loans_1 4 rfl rfl)
theorem dX4_loans_29 : decode cX4_loans 29 = .ok (.istore_n 1, 1) := dk_60 (dk_at dksX4_loans_1 5 rfl rfl)
theorem dX4_loans_30 : decode cX4_loans 30 = .ok (.iinc 2 1, 3) := dk_132 2 1 (dk_at dksX4_loans_1 6 rfl rfl)
theorem dX4_loans_33 : decode cX4_loans 33 = .ok (.goto (-29), 3) := dk_167 255 227 (dk_at dksX4_loans_1 9 rfl rfl)
theorem dX4_loans_36 : decode cX4_loans 36 = .ok (.iload_n 1, 1) := dk_27 (dk_at dksX4_loans_1 12 rfl rfl)
theorem dX4_loans_37 : decode cX4_loans 37 = .ok (.ireturn, 1) := dk_172 (dk_at dksX4_loans_1 13 rfl rfl)

