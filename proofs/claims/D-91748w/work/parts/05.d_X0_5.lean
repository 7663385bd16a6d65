set_option maxRecDepth 100000
def dkwX0_init_7 : List UInt8 := [16, 8, 188, 10, 181, 0, 85, 42, 16, 8, 188, 11, 181, 0, 88, 177]
abbrev dktX0_init_7 : List UInt8 := dkwX0_init_7 ++ []
def dkwX0_init_6 : List UInt8 := [181, 0, 74, 42, 16, 20, 188, 10, 181, 0, 77, 42, 16, 8, 16, 8, 197, 0, 80, 2, 181, 0, 82, 42]
abbrev dktX0_init_6 : List UInt8 := dkwX0_init_6 ++ dktX0_init_7
def dkwX0_init_5 : List UInt8 := [17, 39, 16, 188, 10, 181, 0, 68, 42, 17, 39, 16, 188, 10, 181, 0, 71, 42, 17, 39, 16, 188, 10]
abbrev dktX0_init_5 : List UInt8 := dkwX0_init_5 ++ dktX0_init_6
def dkwX0_init_4 : List UInt8 := [188, 10, 181, 0, 58, 42, 7, 188, 10, 181, 0, 62, 42, 17, 39, 16, 188, 10, 181, 0, 65, 42]
abbrev dktX0_init_4 : List UInt8 := dkwX0_init_4 ++ dktX0_init_5
def dkwX0_init_3 : List UInt8 := [42, 187, 0, 30, 89, 183, 0, 32, 181, 0, 52, 42, 187, 0, 30, 89, 183, 0, 32, 181, 0, 55, 42, 6]
abbrev dktX0_init_3 : List UInt8 := dkwX0_init_3 ++ dktX0_init_4
def dkwX0_init_2 : List UInt8 := [187, 0, 30, 89, 183, 0, 32, 181, 0, 40, 42, 187, 0, 43, 89, 3, 4, 5, 183, 0, 45, 181, 0, 48]
abbrev dktX0_init_2 : List UInt8 := dkwX0_init_2 ++ dktX0_init_3
def dkwX0_init_1 : List UInt8 := [42, 187, 0, 30, 89, 183, 0, 32, 181, 0, 33, 42, 187, 0, 30, 89, 183, 0, 32, 181, 0, 37, 42]
abbrev dktX0_init_1 : List UInt8 := dkwX0_init_1 ++ dktX0_init_2
def dkwX0_init_0 : List UInt8 := [42, 183, 0, 13, 42, 17, 2, 88, 188, 8, 181, 0, 19, 42, 187, 0, 23, 89, 183, 0, 25, 181, 0, 26]
abbrev dktX0_init_0 : List UInt8 := dkwX0_init_0 ++ dktX0_init_1
theorem dksX0_init_0 : cX0_init.data.toList.drop 0 = dktX0_init_0 := by decide +kernel
theorem dksX0_init_1 : cX0_init.data.toList.drop 24 = dktX0_init_1 := dk_seg dksX0_init_0 24 rfl rfl
theorem dksX0_init_2 : cX0_init.data.toList.drop 47 = dktX0_init_2 := dk_seg dksX0_init_1 23 rfl rfl
theorem dksX0_init_3 : cX0_init.data.toList.drop 71 = dktX0_init_3 := dk_seg dksX0_init_2 24 rfl rfl
theorem dksX0_init_4 : cX0_init.data.toList.drop 95 = dktX0_init_4 := dk_seg dksX0_init_3 24 rfl rfl
theorem dksX0_init_5 : cX0_init.data.toList.drop 117 = dktX0_init_5 := dk_seg dksX0_init_4 22 rfl rfl
theorem dksX0_init_6 : cX0_init.data.toList.drop 140 = dktX0_init_6 := dk_seg dksX0_init_5 23 rfl rfl
theorem dksX0_init_7 : cX0_init.data.toList.drop 164 = dktX0_init_7 := dk_seg dksX0_init_6 24 rfl rfl
theorem dX0_init_0 : decode cX0_init 0 = .ok (.aload_n 0, 1) := dk_42 (dk_at dksX0_init_0 0 rfl rfl)
theorem dX0_init_1 : decode cX0_init 1 = .ok (.invokespecial 13, 3) := dk_183 0 13 (dk_at dksX0_init_0 1 rfl rfl)
theorem dX0_init_4 : decode cX0_init 4 = .ok (.aload_n 0, 1) := dk_42 (dk_at dksX0_init_0 4 rfl rfl)
theorem dX0_init_5 : decode cX0_init 5 = .ok (.sipush 600, 3) := dk_17 2 88 (dk_at dksX0_init_0 5 rfl rfl)
theorem dX0_init_8 : decode cX0_init 8 = .ok (.newarray .byte, 2) := dk_188_8 (dk_at dksX0_init_0 8 rfl rfl)
theorem dX0_init_10 : decode cX0_init 10 = .ok (.putfield 19, 3) := dk_181 0 19 (dk_at dksX0_init_0 10 rfl rfl)
theorem dX0_init_13 : decode cX0_init 13 = .ok (.aload_n 0, 1) := dk_42 (dk_at dksX0_init_0 13 rfl rfl)
theorem dX0_init_14 : decode cX0_init 14 = .ok (.new 23, 3) := dk_187 0 23 (dk_at dksX0_init_0 14 rfl rfl)
theorem dX0_init_17 : decode cX0_init 17 = .ok (.dup, 1) := dk_89 (dk_at dksX0_init_0 17 rfl rfl)
theorem dX0_init_18 : decode cX0_init 18 = .ok (.invokespecial 25, 3) := dk_183 0 25 (dk_at dksX0_init_0 18 rfl rfl)
theorem dX0_init_21 : decode cX0_init 21 = .ok (.putfield 26, 3) := dk_181 0 26 (dk_at dksX0_init_0 21 rfl rfl)
theorem dX0_init_24 : decode cX0_init 24 = .ok (.aload_n 0, 1) := dk_42 (dk_at dksX0_init_1 0 rfl rfl)
theorem dX0_init_25 : decode cX0_init 25 = .ok (.new 30, 3) := dk_187 0 30 (dk_at dksX0_init_1 1 rfl rfl)
theorem dX0_init_28 : decode cX0_init 28 = .ok (.dup, 1) := dk_89 (dk_at dksX0_init_1 4 rfl rfl)
theorem dX0_init_29 : decode cX0_init 29 = .ok (.invokespecial 32, 3) := dk_183 0 32 (dk_at dksX0_init_1 5 rfl rfl)
theorem dX0_init_32 : decode cX0_init 32 = .ok (.putfield 33, 3) := dk_181 0 33 (dk_at dksX0_init_1 8 rfl rfl)
theorem dX0_init_35 : decode cX0_init 35 = .ok (.aload_n 0, 1) := dk_42 (dk_at dksX0_init_1 11 rfl rfl)
theorem dX0_init_36 : decode cX0_init 36 = .ok (.new 30, 3) := dk_187 0 30 (dk_at dksX0_init_1 12 rfl rfl)
theorem dX0_init_39 : decode cX0_init 39 = .ok (.dup, 1) := dk_89 (dk_at dksX0_init_1 15 rfl rfl)
theorem dX0_init_40 : decode cX0_init 40 = .ok (.invokespecial 32, 3) := dk_183 0 32 (dk_at dksX0_init_1 16 rfl rfl)
theorem dX0_init_43 : decode cX0_init 43 = .ok (.putfield 37, 3) := dk_181 0 37 (dk_at dksX0_init_1 19 rfl rfl)
theorem dX0_init_46 : decode cX0_init 46 = .ok (.aload_n 0, 1) := dk_42 (dk_at dksX0_init_1 22 rfl rfl)
theorem dX0_init_47 : decode cX0_init 47 = .ok (.new 30, 3) := dk_187 0 30 (dk_at dksX0_init_2 0 rfl rfl)
theorem dX0_init_50 : decode cX0_init 50 = .ok (.dup, 1) := dk_89 (dk_at dksX0_init_2 3 rfl rfl)
theorem dX0_init_51 : decode cX0_init 51 = .ok (.invokespecial 32, 3) := dk_183 0 32 (dk_at dksX0_init_2 4 rfl rfl)
theorem dX0_init_54 : decode cX0_init 54 = .ok (.putfield 40, 3) := dk_181 0 40 (dk_at dksX0_init_2 7 rfl rfl)
theorem dX0_init_57 : decode cX0_init 57 = .ok (.aload_n 0, 1) := dk_42 (dk_at dksX0_init_2 10 rfl rfl)
theorem dX0_init_58 : decode cX0_init 58 = .ok (.new 43, 3) := dk_187 0 43 (dk_at dksX0_init_2 11 rfl rfl)
theorem dX0_init_61 : decode cX0_init 61 = .ok (.dup, 1) := dk_89 (dk_at dksX0_init_2 14 rfl rfl)
theorem dX0_init_62 : decode cX0_init 62 = .ok (.iconst 0, 1) := dk_3 (dk_at dksX0_init_2 15 rfl rfl)
theorem dX0_init_63 : decode cX0_init 63 = .ok (.iconst 1, 1) := dk_4 (dk_at dksX0_init_2 16 rfl rfl)
theorem dX0_init_64 : decode cX0_init 64 = .ok (.iconst 2, 1) := dk_5 (dk_at dksX0_init_2 17 rfl rfl)
theorem dX0_init_65 : decode cX0_init 65 = .ok (.invokespecial 45, 3) := dk_183 0 45 (dk_at dksX0_init_2 18 rfl rfl)
theorem dX0_init_68 : decode cX0_init 68 = .ok (.putfield 48, 3) := dk_181 0 48 (dk_at dksX0_init_2 21 rfl rfl)
theorem dX0_init_71 : decode cX0_init 71 = .ok (.aload_n 0, 1) := dk_42 (dk_at dksX0_init_3 0 rfl rfl)
theorem dX0_init_72 : decode cX0_init 72 = .ok (.new 30, 3) := dk_187 0 30 (dk_at dksX0_init_3 1 rfl rfl)
theorem dX0_init_75 : decode cX0_init 75 = .ok (.dup, 1) := dk_89 (dk_at dksX0_init_3 4 rfl rfl)
theorem dX0_init_76 : decode cX0_init 76 = .ok (.invokespecial 32, 3) := dk_183 0 32 (dk_at dksX0_init_3 5 rfl rfl)
theorem dX0_init_79 : decode cX0_init 79 = .ok (.putfield 52, 3) := dk_181 0 52 (dk_at dksX0_init_3 8 rfl rfl)
theorem dX0_init_82 : decode cX0_init 82 = .ok (.aload_n 0, 1) := dk_42 (dk_at dksX0_init_3 11 rfl rfl)
theorem dX0_init_83 : decode cX0_init 83 = .ok (.new 30, 3) := dk_187 0 30 (dk_at dksX0_init_3 12 rfl rfl)
theorem dX0_init_86 : decode cX0_init 86 = .ok (.dup, 1) := dk_89 (dk_at dksX0_init_3 15 rfl rfl)
theorem dX0_init_87 : decode cX0_init 87 = .ok (.invokespecial 32, 3) := dk_183 0 32 (dk_at dksX0_init_3 16 rfl rfl)
theorem dX0_init_90 : decode cX0_init 90 = .ok (.putfield 55, 3) := dk_181 0 55 (dk_at dksX0_init_3 19 rfl rfl)
theorem dX0_init_93 : decode cX0_init 93 = .ok (.aload_n 0, 1) := dk_42 (dk_at dksX0_init_3 22 rfl rfl)
theorem dX0_init_94 : decode cX0_init 94 = .ok (.iconst 3, 1) := dk_6 (dk_at dksX0_init_3 23 rfl rfl)
theorem dX0_init_95 : decode cX0_init 95 = .ok (.newarray .int, 2) := dk_188_10 (dk_at dksX0_init_4 0 rfl rfl)
theorem dX0_init_97 : decode cX0_init 97 = .ok (.putfield 58, 3) := dk_181 0 58 (dk_at dksX0_init_4 2 rfl rfl)
theorem dX0_init_100 : decode cX0_init 100 = .ok (.aload_n 0, 1) := dk_42 (dk_at dksX0_init_4 5 rfl rfl)
theorem dX0_init_101 : decode cX0_init 101 = .ok (.iconst 4, 1) := dk_7 (dk_at dksX0_init_4 6 rfl rfl)
theorem dX0_init_102 : decode cX0_init 102 = .ok (.newarray .int, 2) := dk_188_10 (dk_at dksX0_init_4 7 rfl rfl)
theorem dX0_init_104 : decode cX0_init 104 = .ok (.putfield 62, 3) := dk_181 0 62 (dk_at dksX0_init_4 9 rfl rfl)
theorem dX0_init_107 : decode cX0_init 107 = .ok (.aload_n 0, 1) := dk_42 (dk_at dksX0_init_4 12 rfl rfl)
theorem dX0_init_108 : decode cX0_init 108 = .ok (.sipush 10000, 3) := dk_17 39 16 (dk_at dksX0_init_4 13 rfl rfl)
theorem dX0_init_111 : decode cX0_init 111 = .ok (.newarray .int, 2) := dk_188_10 (dk_at dksX0_init_4 16 rfl rfl)
theorem dX0_init_113 : decode cX0_init 113 = .ok (.putfield 65, 3) := dk_181 0 65 (dk_at dksX0_init_4 18 rfl rfl)
theorem dX0_init_116 : decode cX0_init 116 = .ok (.aload_n 0, 1) := dk_42 (dk_at dksX0_init_4 21 rfl rfl)
theorem dX0_init_117 : decode cX0_init 117 = .ok (.sipush 10000, 3) := dk_17 39 16 (dk_at dksX0_init_5 0 rfl rfl)
theorem dX0_init_120 : decode cX0_init 120 = .ok (.newarray .int, 2) := dk_188_10 (dk_at dksX0_init_5 3 rfl rfl)
theorem dX0_init_122 : decode cX0_init 122 = .ok (.putfield 68, 3) := dk_181 0 68 (dk_at dksX0_init_5 5 rfl rfl)
theorem dX0_init_125 : decode cX0_init 125 = .ok (.aload_n 0, 1) := dk_42 (dk_at dksX0_init_5 8 rfl rfl)
theorem dX0_init_126 : decode cX0_init 126 = .ok (.sipush 10000, 3) := dk_17 39 16 (dk_at dksX0_init_5 9 rfl rfl)
theorem dX0_init_129 : decode cX0_init 129 = .ok (.newarray .int, 2) := dk_188_10 (dk_at dksX0_init_5 12 rfl rfl)
theorem dX0_init_131 : decode cX0_init 131 = .ok (.putfield 71, 3) := dk_181 0 71 (dk_at dksX0_init_5 14 rfl rfl)
theorem dX0_init_134 : decode cX0_init 134 = .ok (.aload_n 0, 1) := dk_42 (dk_at dksX0_init_5 17 rfl rfl)
theorem dX0_init_135 : decode cX0_init 135 = .ok (.sipush 10000, 3) := dk_17 39 16 (dk_at dksX0_init_5 18 rfl rfl)
theorem dX0_init_138 : decode cX0_init 138 = .ok (.newarray .int, 2) := dk_188_10 (dk_at dksX0_init_5 21 rfl rfl)
theorem dX0_init_140 : decode cX0_init 140 = .ok (.putfield 74, 3) := dk_181 0 74 (dk_at dksX0_init_6 0 rfl rfl)
theorem dX0_init_143 : decode cX0_init 143 = .ok (.aload_n 0, 1) := dk_42 (dk_at dksX0_init_6 3 rfl rfl)
theorem dX0_init_144 : decode cX0_init 144 = .ok (.bipush 20, 2) := dk_16 20 (dk_at dksX0_init_6 4 rfl rfl)
theorem dX0_init_146 : decode cX0_init 146 = .ok (.newarray .int, 2) := dk_188_10 (dk_at dksX0_init_6 6 rfl rfl)
theorem dX0_init_148 : decode cX0_init 148 = .ok (.putfield 77, 3) := dk_181 0 77 (dk_at dksX0_init_6 8 rfl rfl)
theorem dX0_init_151 : decode cX0_init 151 = .ok (.aload_n 0, 1) := dk_42 (dk_at dksX0_init_6 11 rfl rfl)
theorem dX0_init_152 : decode cX0_init 152 = .ok (.bipush 8, 2) := dk_16 8 (dk_at dksX0_init_6 12 rfl rfl)
theorem dX0_init_154 : decode cX0_init 154 = .ok (.bipush 8, 2) := dk_16 8 (dk_at dksX0_init_6 14 rfl rfl)
theorem dX0_init_156 : decode cX0_init 156 = .ok (.multianewarray 80 2, 4) := by decide +kernel
theorem dX0_init_160 : decode cX0_init 160 = .ok (.putfield 82, 3) := dk_181 0 82 (dk_at dksX0_init_6 20 rfl rfl)
theorem dX0_init_163 : decode cX0_init 163 = .ok (.aload_n 0, 1) := dk_42 (dk_at dksX0_init_6 23 rfl rfl)
theorem dX0_init_164 : decode cX0_init 164 = .ok (.bipush 8, 2) := dk_16 8 (dk_at dksX0_init_7 0 rfl rfl)
theorem dX0_init_166 : decode cX0_init 166 = .ok (.newarray .int, 2) := dk_188_10 (dk_at dksX0_init_7 2 rfl rfl)
theorem dX0_init_168 : decode cX0_init 168 = .ok (.putfield 85, 3) := dk_181 0 85 (dk_at dksX0_init_7 4 rfl rfl)
theorem dX0_init_171 : decode cX0_init 171 = .ok (.aload_n 0, 1) := dk_42 (dk_at dksX0_init_7 7 rfl rfl)
theorem dX0_init_172 : decode cX0_init 172 = .ok (.bipush 8, 2) := dk_16 8 (dk_at dksX0_init_7 8 rfl rfl)
theorem dX0_init_174 : decode cX0_init 174 = .ok (.newarray .long, 2) := dk_188_11 (dk_at dksX0_init_7 10 rfl rfl)
theorem dX0_init_176 : decode cX0_init 176 = .ok (.putfield 88, 3) := dk_181 0 88 (dk_at dksX0_init_7 12 rfl rfl)
theorem dX0_init_179 : decode cX0_init 179 = .ok (.return_, 1) := dk_177 (dk_at dksX0_init_7 15 rfl rfl)
def dkwX0_feed_2 : List UInt8 := [172]
abbrev dktX0_feed_2 : List UInt8 := dkwX0_feed_2 ++ []
def dkwX0_feed_1 : List UInt8 := [182, 0, 117, 42, 29, 182, 0, 117, 42, 21, 4, 182, 0, 117, 42, 21, 5, 182, 0, 117, 42, 180, 0, 114]
abbrev dktX0_feed_1 : List UInt8 := dkwX0_feed_1 ++ dktX0_feed_2
def dkwX0_feed_0 : List UInt8 := [42, 180, 0, 114, 16, 20, 96, 17, 2, 88, 164, 0, 5, 2, 172, 42, 27, 182, 0, 117, 42, 28]
abbrev dktX0_feed_0 : List UInt8 := dkwX0_feed_0 ++ dktX0_feed_1
theorem dksX0_feed_0 : cX0_feed.data.toList.drop 0 = dktX0_feed_0 := by decide +kernel
theorem dksX0_feed_1 : cX0_feed.data.toList.drop 22 = dktX0_feed_1 := dk_seg dksX0_feed_0 22 rfl rfl
theorem dksX0_feed_2 : cX0_feed.data.toList.drop 46 = dktX0_feed_2 := dk_seg dksX0_feed_1 24 rfl rfl
theorem dX0_feed_0 : decode cX0_feed 0 = .ok (.aload_n 0, 1) := dk_42 (dk_at dksX0_feed_0 0 rfl rfl)
theorem dX0_feed_1 : decode cX0_feed 1 = .ok (.getfield 114, 3) := dk_180 0 114 (dk_at dksX0_feed_0 1 rfl rfl)
theorem dX0_feed_4 : decode cX0_feed 4 = .ok (.bipush 20, 2) := dk_16 20 (dk_at dksX0_feed_0 4 rfl rfl)
theorem dX0_feed_6 : decode cX0_feed 6 = .ok (.iadd, 1) := dk_96 (dk_at dksX0_feed_0 6 rfl rfl)
theorem dX0_feed_7 : decode cX0_feed 7 = .ok (.sipush 600, 3) := dk_17 2 88 (dk_at dksX0_feed_0 7 rfl rfl)
theorem dX0_feed_10 : decode cX0_feed 10 = .ok (.if_icmp .le 5, 3) := dk_164 0 5 (dk_at dksX0_feed_0 10 rfl rfl)
theorem dX0_feed_13 : decode cX0_feed 13 = .ok (.iconst (-1), 1) := dk_2 (dk_at dksX0_feed_0 13 rfl rfl)
theorem dX0_feed_14 : decode cX0_feed 14 = .ok (.ireturn, 1) := dk_172 (dk_at dksX0_feed_0 14 rfl rfl)
theorem dX0_feed_15 : decode cX0_feed 15 = .ok (.aload_n 0, 1) := dk_42 (dk_at dksX0_feed_0 15 rfl rfl)
theorem dX0_feed_16 : decode cX0_feed 16 = .ok (.iload_n 1, 1) := dk_27 (dk_at dksX0_feed_0 16 rfl rfl)
theorem dX0_feed_17 : decode cX0_feed 17 = .ok (.invokevirtual 117, 3) := dk_182 0 117 (dk_at dksX0_feed_0 17 rfl rfl)
theorem dX0_feed_20 : decode cX0_feed 20 = .ok (.aload_n 0, 1) := dk_42 (dk_at dksX0_feed_0 20 rfl rfl)
theorem dX0_feed_21 : decode cX0_feed 21 = .ok (.iload_n 2, 1) := dk_28 (dk_at dksX0_feed_0 21 rfl rfl)
theorem dX0_feed_22 : decode cX0_feed 22 = .ok (.invokevirtual 117, 3) := dk_182 0 117 (dk_at dksX0_feed_1 0 rfl rfl)
theorem dX0_feed_25 : decode cX0_feed 25 = .ok (.aload_n 0, 1) := dk_42 (dk_at dksX0_feed_1 3 rfl rfl)
theorem dX0_feed_26 : decode cX0_feed 26 = .ok (.iload_n 3, 1) := dk_29 (dk_at dksX0_feed_1 4 rfl rfl)
theorem dX0_feed_27 : decode cX0_feed 27 = .ok (.invokevirtual 117, 3) := dk_182 0 117 (dk_at dksX0_feed_1 5 rfl rfl)
theorem dX0_feed_30 : decode cX0_feed 30 = .ok (.aload_n 0, 1) := dk_42 (dk_at dksX0_feed_1 8 rfl rfl)
theorem dX0_feed_31 : decode cX0_feed 31 = .ok (.iload 4, 2) := dk_21 4 (dk_at dksX0_feed_1 9 rfl rfl)
theorem dX0_feed_33 : decode cX0_feed 33 = .ok (.invokevirtual 117, 3) := dk_182 0 117 (dk_at dksX0_feed_1 11 rfl rfl)
theorem dX0_feed_36 : decode cX0_feed 36 = .ok (.aload_n 0, 1) := dk_42 (dk_at dksX0_feed_1 14 rfl rfl)
theorem dX0_feed_37 : decode cX0_feed 37 = .ok (.iload 5, 2) := dk_21 5 (dk_at dksX0_feed_1 15 rfl rfl)
theorem dX0_feed_39 : decode cX0_feed 39 = .ok (.invokevirtual 117, 3) := dk_182 0 117 (dk_at dksX0_feed_1 17 rfl rfl)
theorem dX0_feed_42 : decode cX0_feed 42 = .ok (.aload_n 0, 1) := dk_42 (dk_at dksX0_feed_1 20 rfl rfl)
theorem dX0_feed_43 : decode cX0_feed 43 = .ok (.getfield 114, 3) := dk_180 0 114 (dk_at dksX0_feed_1 21 rfl rfl)
theorem dX0_feed_46 : decode cX0_feed 46 = .ok (.ireturn, 1) := dk_172 (dk_at dksX0_feed_2 0 rfl rfl)
def dkwX0_feeds_1 : List UInt8 := [180, 0, 114, 4, 96, 181, 0, 114, 132, 2, 248, 167, 255, 226, 177]
abbrev dktX0_feeds_1 : List UInt8 := dkwX0_feeds_1 ++ []
def dkwX0_feeds_0 : List UInt8 := [16, 24, 61, 28, 155, 0, 32, 42, 180, 0, 19, 42, 180, 0, 114, 27, 28, 122, 145, 84, 42, 89]
abbrev dktX0_feeds_0 : List UInt8 := dkwX0_feeds_0 ++ dktX0_feeds_1
theorem dksX0_feeds_0 : cX0_feeds.data.toList.drop 0 = dktX0_feeds_0 := by decide +kernel
theorem dksX0_feeds_1 : cX0_feeds.data.toList.drop 22 = dktX0_feeds_1 := dk_seg dksX0_feeds_0 22 rfl rfl
theorem dX0_feeds_0 : decode cX0_feeds 0 = .ok (.bipush 24, 2) := dk_16 24 (dk_at dksX0_feeds_0 0 rfl rfl)
theorem dX0_feeds_2 : decode cX0_feeds 2 = .ok (.istore_n 2, 1) := dk_61 (dk_at dksX0_feeds_0 2 rfl rfl)
theorem dX0_feeds_3 : decode cX0_feeds 3 = .ok (.iload_n 2, 1) := dk_28 (dk_at dksX0_feeds_0 3 rfl rfl)
theorem dX0_feeds_4 : decode cX0_feeds 4 = .ok (.ifCond .lt 32, 3) := dk_155 0 32 (dk_at dksX0_feeds_0 4 rfl rfl)
theorem dX0_feeds_7 : decode cX0_feeds 7 = .ok (.aload_n 0, 1) := dk_42 (dk_at dksX0_feeds_0 7 rfl rfl)
theorem dX0_feeds_8 : decode cX0_feeds 8 = .ok (.getfield 19, 3) := dk_180 0 19 (dk_at dksX0_feeds_0 8 rfl rfl)
theorem dX0_feeds_11 : decode cX0_feeds 11 = .ok (.aload_n 0, 1) := dk_42 (dk_at dksX0_feeds_0 11 rfl rfl)
theorem dX0_feeds_12 : decode cX0_feeds 12 = .ok (.getfield 114, 3) := dk_180 0 114 (dk_at dksX0_feeds_0 12 rfl rfl)
theorem dX0_feeds_15 : decode cX0_feeds 15 = .ok (.iload_n 1, 1) := dk_27 (dk_at dksX0_feeds_0 15 rfl rfl)
theorem dX0_feeds_16 : decode cX0_feeds 16 = .ok (.iload_n 2, 1) := dk_28 (dk_at dksX0_feeds_0 16 rfl rfl)
theorem dX0_feeds_17 : decode cX0_feeds 17 = .ok (.ishr, 1) := dk_122 (dk_at dksX0_feeds_0 17 rfl rfl)
theorem dX0_feeds_18 : decode cX0_feeds 18 = .ok (.i2b, 1) := dk_145 (dk_at dksX0_feeds_0 18 rfl rfl)
theorem dX0_feeds_19 : decode cX0_feeds 19 = .ok (.bastore, 1) := dk_84 (dk_at dksX0_feeds_0 19 rfl rfl)
theorem dX0_feeds_20 : decode cX0_feeds 20 = .ok (.aload_n 0, 1) := dk_42 (dk_at dksX0_feeds_0 20 rfl rfl)
theorem dX0_feeds_21 : decode cX0_feeds 21 = .ok (.dup, 1) := dk_89 (dk_at dksX0_feeds_0 21 rfl rfl)
theorem dX0_feeds_22 : decode cX0_feeds 22 = .ok (.getfield 114, 3) := dk_180 0 114 (dk_at dksX0_feeds_1 0 rfl rfl)
theorem dX0_feeds_25 : decode cX0_feeds 25 = .ok (.iconst 1, 1) := dk_4 (dk_at dksX0_feeds_1 3 rfl rfl)
theorem dX0_feeds_26 : decode cX0_feeds 26 = .ok (.iadd, 1) := dk_96 (dk_at dksX0_feeds_1 4 rfl rfl)
theorem dX0_feeds_27 : decode cX0_feeds 27 = .ok (.putfield 114, 3) := dk_181 0 114 (dk_at dksX0_feeds_1 5 rfl rfl)
theorem dX0_feeds_30 : decode cX0_feeds 30 = .ok (.iinc 2 (-8), 3) := dk_132 2 248 (dk_at dksX0_feeds_1 8 rfl rfl)
theorem dX0_feeds_33 : decode cX0_feeds 33 = .ok (.goto (-30), 3) := dk_167 255 226 (dk_at dksX0_feeds_1 11 rfl rfl)
theorem dX0_feeds_36 : decode cX0_feeds 36 = .ok (.return_, 1) := dk_177 (dk_at dksX0_feeds_1 14 rfl rfl)
def dkwX0_end_0 : List UInt8 := [27, 3, 42, 180, 0, 114, 184, 0, 3, 154, 0, 5, 3, 172, 42, 27, 181, 0, 114, 4, 172]
abbrev dktX0_end_0 : List UInt8 := dkwX0_end_0 ++ []
theorem dksX0_end_0 : cX0_end.data.toList.drop 0 = dktX0_end_0 := by decide +kernel
theorem dX0_end_0 : decode cX0_end 0 = .ok (.iload_n 1, 1) := dk_27 (dk_at dksX0_end_0 0 rfl rfl)
theorem dX0_end_1 : decode cX0_end 1 = .ok (.iconst 0, 1) := dk_3 (dk_at dksX0_end_0 1 rfl rfl)
theorem dX0_end_2 : decode cX0_end 2 = .ok (.aload_n 0, 1) := dk_42 (dk_at dksX0_end_0 2 rfl rfl)
theorem dX0_end_3 : decode cX0_end 3 = .ok (.getfield 114, 3) := dk_180 0 114 (dk_at dksX0_end_0 3 rfl rfl)
theorem dX0_end_6 : decode cX0_end 6 = .ok (.invokestatic 3, 3) := dk_184 0 3 (dk_at dksX0_end_0 6 rfl rfl)
theorem dX0_end_9 : decode cX0_end 9 = .ok (.ifCond .ne 5, 3) := dk_154 0 5 (dk_at dksX0_end_0 9 rfl rfl)
theorem dX0_end_12 : decode cX0_end 12 = .ok (.iconst 0, 1) := dk_3 (dk_at dksX0_end_0 12 rfl rfl)
theorem dX0_end_13 : decode cX0_end 13 = .ok (.ireturn, 1) := dk_172 (dk_at dksX0_end_0 13 rfl rfl)
theorem dX0_end_14 : decode cX0_end 14 = .ok (.aload_n 0, 1) := dk_42 (dk_at dksX0_end_0 14 rfl rfl)
theorem dX0_end_15 : decode cX0_end 15 = .ok (.iload_n 1, 1) := dk_27 (dk_at dksX0_end_0 15 rfl rfl)
theorem dX0_end_16 : decode cX0_end 16 = .ok (.putfield 114, 3) := dk_181 0 114 (dk_at dksX0_end_0 16 rfl rfl)
theorem dX0_end_19 : decode cX0_end 19 = .ok (.iconst 1, 1) := dk_4 (dk_at dksX0_end_0 19 rfl rfl)
theorem dX0_end_20 : decode cX0_end 20 = .ok (.ireturn, 1) := dk_172 (dk_at dksX0_end_0 20 rfl rfl)
def dkwX0_in_0 : List UInt8 := [26, 27, 161, 0, 12, 26, 28, 163, 0, 7, 4, 167, 0, 4, 3, 172]
abbrev dktX0_in_0 : List UInt8 := dkwX0_in_0 ++ []
theorem dksX0_in_0 : cX0_in.data.toList.drop 0 = dktX0_in_0 := by decide +kernel
theorem dX0_in_0 : decode cX0_in 0 = .ok (.iload_n 0, 1) := dk_26 (dk_at dksX0_in_0 0 rfl rfl)
theorem dX0_in_1 : decode cX0_in 1 = .ok (.iload_n 1, 1) := dk_27 (dk_at dksX0_in_0 1 rfl rfl)
theorem dX0_in_2 : decode cX0_in 2 = .ok (.if_icmp .lt 12, 3) := dk_161 0 12 (dk_at dksX0_in_0 2 rfl rfl)
theorem dX0_in_5 : decode cX0_in 5 = .ok (.iload_n 0, 1) := dk_26 (dk_at dksX0_in_0 5 rfl rfl)
theorem dX0_in_6 : decode cX0_in 6 = .ok (.iload_n 2, 1) := dk_28 (dk_at dksX0_in_0 6 rfl rfl)
theorem dX0_in_7 : decode cX0_in 7 = .ok (.if_icmp .gt 7, 3) := dk_163 0 7 (dk_at dksX0_in_0 7 rfl rfl)
theorem dX0_in_10 : decode cX0_in 10 = .ok (.iconst 1, 1) := dk_4 (dk_at dksX0_in_0 10 rfl rfl)
theorem dX0_in_11 : decode cX0_in 11 = .ok (.goto 4, 3) := dk_167 0 4 (dk_at dksX0_in_0 11 rfl rfl)
theorem dX0_in_14 : decode cX0_in 14 = .ok (.iconst 0, 1) := dk_3 (dk_at dksX0_in_0 14 rfl rfl)
theorem dX0_in_15 : decode cX0_in 15 = .ok (.ireturn, 1) := dk_172 (dk_at dksX0_in_0 15 rfl rfl)
def dkwX0_fault_0 : List UInt8 := [42, 180, 0, 26, 42, 180, 0, 19, 42, 180, 0, 114, 182, 0, 121, 2, 172, 76, 43, 180, 0, 127, 172]
abbrev dktX0_fault_0 : List UInt8 := dkwX0_fault_0 ++ []
theorem dksX0_fault_0 : cX0_fault.data.toList.drop 0 = dktX0_fault_0 := by decide +kernel
theorem dX0_fault_0 : decode cX0_fault 0 = .ok (.aload_n 0, 1) := dk_42 (dk_at dksX0_fault_0 0 rfl rfl)
theorem dX0_fault_1 : decode cX0_fault 1 = .ok (.getfield 26, 3) := dk_180 0 26 (dk_at dksX0_fault_0 1 rfl rfl)
theorem dX0_fault_4 : decode cX0_fault 4 = .ok (.aload_n 0, 1) := dk_42 (dk_at dksX0_fault_0 4 rfl rfl)
theorem dX0_fault_5 : decode cX0_fault 5 = .ok (.getfield 19, 3) := dk_180 0 19 (dk_at dksX0_fault_0 5 rfl rfl)
theorem dX0_fault_8 : decode cX0_fault 8 = .ok (.aload_n 0, 1) := dk_42 (dk_at dksX0_fault_0 8 rfl rfl)
theorem dX0_fault_9 : decode cX0_fault 9 = .ok (.getfield 114, 3) := dk_180 0 114 (dk_at dksX0_fault_0 9 rfl rfl)
theorem dX0_fault_12 : decode cX0_fault 12 = .ok (.invokevirtual 121, 3) := dk_182 0 121 (dk_at dksX0_fault_0 12 rfl rfl)
theorem dX0_fault_15 : decode cX0_fault 15 = .ok (.iconst (-1), 1) := dk_2 (dk_at dksX0_fault_0 15 rfl rfl)
theorem dX0_fault_16 : decode cX0_fault 16 = .ok (.ireturn, 1) := dk_172 (dk_at dksX0_fault_0 16 rfl rfl)
theorem dX0_fault_17 : decode cX0_fault 17 = .ok (.astore_n 1, 1) := dk_76 (dk_at dksX0_fault_0 17 rfl rfl)
theorem dX0_fault_18 : decode cX0_fault 18 = .ok (.aload_n 1, 1) := dk_43 (dk_at dksX0_fault_0 18 rfl rfl)
theorem dX0_fault_19 : decode cX0_fault 19 = .ok (.getfield 127, 3) := dk_180 0 127 (dk_at dksX0_fault_0 19 rfl rfl)
theorem dX0_fault_22 : decode cX0_fault 22 = .ok (.ireturn, 1) := dk_172 (dk_at dksX0_fault_0 22 rfl rfl)
def dkwX0_sheet_7 : List UInt8 := [182, 0, 149, 42, 180, 0, 33, 182, 0, 102, 172]
abbrev dktX0_sheet_7 : List UInt8 := dkwX0_sheet_7 ++ []
def dkwX0_sheet_6 : List UInt8 := [87, 132, 1, 1, 167, 255, 217, 42, 42, 180, 0, 26, 180, 0, 148, 181, 0, 48, 42, 3, 181, 0, 114, 42]
abbrev dktX0_sheet_6 : List UInt8 := dkwX0_sheet_6 ++ dktX0_sheet_7
def dkwX0_sheet_5 : List UInt8 := [162, 0, 31, 42, 180, 0, 37, 42, 180, 0, 26, 180, 0, 147, 27, 182, 0, 106, 192, 0, 112, 182, 0, 140]
abbrev dktX0_sheet_5 : List UInt8 := dkwX0_sheet_5 ++ dktX0_sheet_6
def dkwX0_sheet_4 : List UInt8 := [181, 0, 136, 132, 1, 1, 167, 255, 194, 3, 60, 27, 42, 180, 0, 26, 180, 0, 147, 182, 0, 102]
abbrev dktX0_sheet_4 : List UInt8 := dkwX0_sheet_4 ++ dktX0_sheet_5
def dkwX0_sheet_3 : List UInt8 := [182, 0, 140, 87, 42, 89, 180, 0, 136, 42, 180, 0, 33, 27, 182, 0, 106, 192, 0, 110, 180, 0, 144, 96]
abbrev dktX0_sheet_3 : List UInt8 := dkwX0_sheet_3 ++ dktX0_sheet_4
def dkwX0_sheet_2 : List UInt8 := [182, 0, 102, 162, 0, 54, 42, 180, 0, 33, 42, 180, 0, 26, 180, 0, 139, 27, 182, 0, 106, 192, 0, 110]
abbrev dktX0_sheet_2 : List UInt8 := dkwX0_sheet_2 ++ dktX0_sheet_3
def dkwX0_sheet_1 : List UInt8 := [42, 180, 0, 40, 182, 0, 133, 42, 3, 181, 0, 136, 3, 60, 27, 42, 180, 0, 26, 180, 0, 139]
abbrev dktX0_sheet_1 : List UInt8 := dkwX0_sheet_1 ++ dktX0_sheet_2
def dkwX0_sheet_0 : List UInt8 := [42, 182, 0, 130, 2, 159, 0, 5, 2, 172, 42, 180, 0, 33, 182, 0, 133, 42, 180, 0, 37, 182, 0, 133]
abbrev dktX0_sheet_0 : List UInt8 := dkwX0_sheet_0 ++ dktX0_sheet_1
theorem dksX0_sheet_0 : cX0_sheet.data.toList.drop 0 = dktX0_sheet_0 := by decide +kernel
theorem dksX0_sheet_1 : cX0_sheet.data.toList.drop 24 = dktX0_sheet_1 := dk_seg dksX0_sheet_0 24 rfl rfl
theorem dksX0_sheet_2 : cX0_sheet.data.toList.drop 46 = dktX0_sheet_2 := dk_seg dksX0_sheet_1 22 rfl rfl
theorem dksX0_sheet_3 : cX0_sheet.data.toList.drop 70 = dktX0_sheet_3 := dk_seg dksX0_sheet_2 24 rfl rfl
theorem dksX0_sheet_4 : cX0_sheet.data.toList.drop 94 = dktX0_sheet_4 := dk_seg dksX0_sheet_3 24 rfl rfl
theorem dksX0_sheet_5 : cX0_sheet.data.toList.drop 116 = dktX0_sheet_5 := dk_seg dksX0_sheet_4 22 rfl rfl
theorem dksX0_sheet_6 : cX0_sheet.data.toList.drop 140 = dktX0_sheet_6 := dk_seg dksX0_sheet_5 24 rfl rfl
theorem dksX0_sheet_7 : cX0_sheet.data.toList.drop 164 = dktX0_sheet_7 := dk_seg dksX0_sheet_6 24 rfl rfl
theorem dX0_sheet_0 : decode cX0_sheet 0 = .ok (.aload_n 0, 1) := dk_42 (dk_at dksX0_sheet_0 0 rfl rfl)
theorem dX0_sheet_1 : decode cX0_sheet 1 = .ok (.invokevirtual 130, 3) := dk_182 0 130 (dk_at dksX0_sheet_0 1 rfl rfl)
theorem dX0_sheet_4 : decode cX0_sheet 4 = .ok (.iconst (-1), 1) := dk_2 (dk_at dksX0_sheet_0 4 rfl rfl)
theorem dX0_sheet_5 : decode cX0_sheet 5 = .ok (.if_icmp .eq 5, 3) := dk_159 0 5 (dk_at dksX0_sheet_0 5 rfl rfl)
theorem dX0_sheet_8 : decode cX0_sheet 8 = .ok (.iconst (-1), 1) := dk_2 (dk_at dksX0_sheet_0 8 rfl rfl)
theorem dX0_sheet_9 : decode cX0_sheet 9 = .ok (.ireturn, 1) := dk_172 (dk_at dksX0_sheet_0 9 rfl rfl)
theorem dX0_sheet_10 : decode cX0_sheet 10 = .ok (.aload_n 0, 1) := dk_42 (dk_at dksX0_sheet_0 10 rfl rfl)
theorem dX0_sheet_11 : decode cX0_sheet 11 = .ok (.getfield 33, 3) := dk_180 0 33 (dk_at dksX0_sheet_0 11 rfl rfl)
theorem dX0_sheet_14 : decode cX0_sheet 14 = .ok (.invokevirtual 133, 3) := dk_182 0 133 (dk_at dksX0_sheet_0 14 rfl rfl)
theorem dX0_sheet_17 : decode cX0_sheet 17 = .ok (.aload_n 0, 1) := dk_42 (dk_at dksX0_sheet_0 17 rfl rfl)
theorem dX0_sheet_18 : decode cX0_sheet 18 = .ok (.getfield 37, 3) := dk_180 0 37 (dk_at dksX0_sheet_0 18 rfl rfl)
theorem dX0_sheet_21 : decode cX0_sheet 21 = .ok (.invokevirtual 133, 3) := dk_182 0 133 (dk_at dksX0_sheet_0 21 rfl rfl)
theorem dX0_sheet_24 : decode cX0_sheet 24 = .ok (.aload_n 0, 1) := dk_42 (dk_at dksX0_sheet_1 0 rfl rfl)
theorem dX0_sheet_25 : decode cX0_sheet 25 = .ok (.getfield 40, 3) := dk_180 0 40 (dk_at dksX0_sheet_1 1 rfl rfl)
theorem dX0_sheet_28 : decode cX0_sheet 28 = .ok (.invokevirtual 133, 3) := dk_182 0 133 (dk_at dksX0_sheet_1 4 rfl rfl)
theorem dX0_sheet_31 : decode cX0_sheet 31 = .ok (.aload_n 0, 1) := dk_42 (dk_at dksX0_sheet_1 7 rfl rfl)
theorem dX0_sheet_32 : decode cX0_sheet 32 = .ok (.iconst 0, 1) := dk_3 (dk_at dksX0_sheet_1 8 rfl rfl)
theorem dX0_sheet_33 : decode cX0_sheet 33 = .ok (.putfield 136, 3) := dk_181 0 136 (dk_at dksX0_sheet_1 9 rfl rfl)
theorem dX0_sheet_36 : decode cX0_sheet 36 = .ok (.iconst 0, 1) := dk_3 (dk_at dksX0_sheet_1 12 rfl rfl)
theorem dX0_sheet_37 : decode cX0_sheet 37 = .ok (.istore_n 1, 1) := dk_60 (dk_at dksX0_sheet_1 13 rfl rfl)
theorem dX0_sheet_38 : decode cX0_sheet 38 = .ok (.iload_n 1, 1) := dk_27 (dk_at dksX0_sheet_1 14 rfl rfl)
theorem dX0_sheet_39 : decode cX0_sheet 39 = .ok (.aload_n 0, 1) := dk_42 (dk_at dksX0_sheet_1 15 rfl rfl)
theorem dX0_sheet_40 : decode cX0_sheet 40 = .ok (.getfield 26, 3) := dk_180 0 26 (dk_at dksX0_sheet_1 16 rfl rfl)
theorem dX0_sheet_43 : decode cX0_sheet 43 = .ok (.getfield 139, 3) := dk_180 0 139 (dk_at dksX0_sheet_1 19 rfl rfl)
theorem dX0_sheet_46 : decode cX0_sheet 46 = .ok (.invokevirtual 102, 3) := dk_182 0 102 (dk_at dksX0_sheet_2 0 rfl rfl)
theorem dX0_sheet_49 : decode cX0_sheet 49 = .ok (.if_icmp .ge 54, 3) := dk_162 0 54 (dk_at dksX0_sheet_2 3 rfl rfl)
theorem dX0_sheet_52 : decode cX0_sheet 52 = .ok (.aload_n 0, 1) := dk_42 (dk_at dksX0_sheet_2 6 rfl rfl)
theorem dX0_sheet_53 : decode cX0_sheet 53 = .ok (.getfield 33, 3) := dk_180 0 33 (dk_at dksX0_sheet_2 7 rfl rfl)
theorem dX0_sheet_56 : decode cX0_sheet 56 = .ok (.aload_n 0, 1) := dk_42 (dk_at dksX0_sheet_2 10 rfl rfl)
theorem dX0_sheet_57 : decode cX0_sheet 57 = .ok (.getfield 26, 3) := dk_180 0 26 (dk_at dksX0_sheet_2 11 rfl rfl)
theorem dX0_sheet_60 : decode cX0_sheet 60 = .ok (.getfield 139, 3) := dk_180 0 139 (dk_at dksX0_sheet_2 14 rfl rfl)
theorem dX0_sheet_63 : decode cX0_sheet 63 = .ok (.iload_n 1, 1) := dk_27 (dk_at dksX0_sheet_2 17 rfl rfl)
theorem dX0_sheet_64 : decode cX0_sheet 64 = .ok (.invokevirtual 106, 3) := dk_182 0 106 (dk_at dksX0_sheet_2 18 rfl rfl)
theorem dX0_sheet_67 : decode cX0_sheet 67 = .ok (.checkcast 110, 3) := dk_192 0 110 (dk_at dksX0_sheet_2 21 rfl rfl)
theorem dX0_sheet_70 : decode cX0_sheet 70 = .ok (.invokevirtual 140, 3) := dk_182 0 140 (dk_at dksX0_sheet_3 0 rfl rfl)
theorem dX0_sheet_73 : decode cX0_sheet 73 = .ok (.pop, 1) := dk_87 (dk_at dksX0_sheet_3 3 rfl rfl)
theorem dX0_sheet_74 : decode cX0_sheet 74 = .ok (.aload_n 0, 1) := dk_42 (dk_at dksX0_sheet_3 4 rfl rfl)
theorem dX0_sheet_75 : decode cX0_sheet 75 = .ok (.dup, 1) := dk_89 (dk_at dksX0_sheet_3 5 rfl rfl)
theorem dX0_sheet_76 : decode cX0_sheet 76 = .ok (.getfield 136, 3) := dk_180 0 136 (dk_at dksX0_sheet_3 6 rfl rfl)
theorem dX0_sheet_79 : decode cX0_sheet 79 = .ok (.aload_n 0, 1) := dk_42 (dk_at dksX0_sheet_3 9 rfl rfl)
theorem dX0_sheet_80 : decode cX0_sheet 80 = .ok (.getfield 33, 3) := dk_180 0 33 (dk_at dksX0_sheet_3 10 rfl rfl)
theorem dX0_sheet_83 : decode cX0_sheet 83 = .ok (.iload_n 1, 1) := dk_27 (dk_at dksX0_sheet_3 13 rfl rfl)
theorem dX0_sheet_84 : decode cX0_sheet 84 = .ok (.invokevirtual 106, 3) := dk_182 0 106 (dk_at dksX0_sheet_3 14 rfl rfl)
theorem dX0_sheet_87 : decode cX0_sheet 87 = .ok (.checkcast 110, 3) := dk_192 0 110 (dk_at dksX0_sheet_3 17 rfl rfl)
theorem dX0_sheet_90 : decode cX0_sheet 90 = .ok (.getfield 144, 3) := dk_180 0 144 (dk_at dksX0_sheet_3 20 rfl rfl)
theorem dX0_sheet_93 : decode cX0_sheet 93 = .ok (.iadd, 1) := dk_96 (dk_at dksX0_sheet_3 23 rfl rfl)
theorem dX0_sheet_94 : decode cX0_sheet 94 = .ok (.putfield 136, 3) := dk_181 0 136 (dk_at dksX0_sheet_4 0 rfl rfl)
theorem dX0_sheet_97 : decode cX0_sheet 97 = .ok (.iinc 1 1, 3) := dk_132 1 1 (dk_at dksX0_sheet_4 3 rfl rfl)
theorem dX0_sheet_100 : decode cX0_sheet 100 = .ok (.goto (-62), 3) := dk_167 255 194 (dk_at dksX0_sheet_4 6 rfl rfl)
theorem dX0_sheet_103 : decode cX0_sheet 103 = .ok (.iconst 0, 1) := dk_3 (dk_at dksX0_sheet_4 9 rfl rfl)
theorem dX0_sheet_104 : decode cX0_sheet 104 = .ok (.istore_n 1, 1) := dk_60 (dk_at dksX0_sheet_4 10 rfl rfl)
theorem dX0_sheet_105 : decode cX0_sheet 105 = .ok (.iload_n 1, 1) := dk_27 (dk_at dksX0_sheet_4 11 rfl rfl)
theorem dX0_sheet_106 : decode cX0_sheet 106 = .ok (.aload_n 0, 1) := dk_42 (dk_at dksX0_sheet_4 12 rfl rfl)
theorem dX0_sheet_107 : decode cX0_sheet 107 = .ok (.getfield 26, 3) := dk_180 0 26 (dk_at dksX0_sheet_4 13 rfl rfl)
theorem dX0_sheet_110 : decode cX0_sheet 110 = .ok (.getfield 147, 3) := dk_180 0 147 (dk_at dksX0_sheet_4 16 rfl rfl)
theorem dX0_sheet_113 : decode cX0_sheet 113 = .ok (.invokevirtual 102, 3) := dk_182 0 102 (dk_at dksX0_sheet_4 19 rfl rfl)
theorem dX0_sheet_116 : decode cX0_sheet 116 = .ok (.if_icmp .ge 31, 3) := dk_162 0 31 (dk_at dksX0_sheet_5 0 rfl rfl)
theorem dX0_sheet_119 : decode cX0_sheet 119 = .ok (.aload_n 0, 1) := dk_42 (dk_at dksX0_sheet_5 3 rfl rfl)
theorem dX0_sheet_120 : decode cX0_sheet 120 = .ok (.getfield 37, 3) := dk_180 0 37 (dk_at dksX0_sheet_5 4 rfl rfl)
theorem dX0_sheet_123 : decode cX0_sheet 123 = .ok (.aload_n 0, 1) := dk_42 (dk_at dksX0_sheet_5 7 rfl rfl)
theorem dX0_sheet_124 : decode cX0_sheet 124 = .ok (.getfield 26, 3) := dk_180 0 26 (dk_at dksX0_sheet_5 8 rfl rfl)
theorem dX0_sheet_127 : decode cX0_sheet 127 = .ok (.getfield 147, 3) := dk_180 0 147 (dk_at dksX0_sheet_5 11 rfl rfl)
theorem dX0_sheet_130 : decode cX0_sheet 130 = .ok (.iload_n 1, 1) := dk_27 (dk_at dksX0_sheet_5 14 rfl rfl)
theorem dX0_sheet_131 : decode cX0_sheet 131 = .ok (.invokevirtual 106, 3) := dk_182 0 106 (dk_at dksX0_sheet_5 15 rfl rfl)
theorem dX0_sheet_134 : decode cX0_sheet 134 = .ok (.checkcast 112, 3) := dk_192 0 112 (dk_at dksX0_sheet_5 18 rfl rfl)
theorem dX0_sheet_137 : decode cX0_sheet 137 = .ok (.invokevirtual 140, 3) := dk_182 0 140 (dk_at dksX0_sheet_5 21 rfl rfl)
theorem dX0_sheet_140 : decode cX0_sheet 140 = .ok (.pop, 1) := dk_87 (dk_at dksX0_sheet_6 0 rfl rfl)
theorem dX0_sheet_141 : decode cX0_sheet 141 = .ok (.iinc 1 1, 3) := dk_132 1 1 (dk_at dksX0_sheet_6 1 rfl rfl)
theorem dX0_sheet_144 : decode cX0_sheet 144 = .ok (.goto (-39), 3) := dk_167 255 217 (dk_at dksX0_sheet_6 4 rfl rfl)
theorem dX0_sheet_147 : decode cX0_sheet 147 = .ok (.aload_n 0, 1) := dk_42 (dk_at dksX0_sheet_6 7 rfl rfl)
theorem dX0_sheet_148 : decode cX0_sheet 148 = .ok (.aload_n 0, 1) := dk_42 (dk_at dksX0_sheet_6 8 rfl rfl)
theorem dX0_sheet_149 : decode cX0_sheet 149 = .ok (.getfield 26, 3) := dk_180 0 26 (dk_at dksX0_sheet_6 9 rfl rfl)
theorem dX0_sheet_152 : decode cX0_sheet 152 = .ok (.getfield 148, 3) := dk_180 0 148 (dk_at dksX0_sheet_6 12 rfl rfl)
theorem dX0_sheet_155 : decode cX0_sheet 155 = .ok (.putfield 48, 3) := dk_181 0 48 (dk_at dksX0_sheet_6 15 rfl rfl)
theorem dX0_sheet_158 : decode cX0_sheet 158 = .ok (.aload_n 0, 1) := dk_42 (dk_at dksX0_sheet_6 18 rfl rfl)
theorem dX0_sheet_159 : decode cX0_sheet 159 = .ok (.iconst 0, 1) := dk_3 (dk_at dksX0_sheet_6 19 rfl rfl)
theorem dX0_sheet_160 : decode cX0_sheet 160 = .ok (.putfield 114, 3) := dk_181 0 114 (dk_at dksX0_sheet_6 20 rfl rfl)
theorem dX0_sheet_163 : decode cX0_sheet 163 = .ok (.aload_n 0, 1) := dk_42 (dk_at dksX0_sheet_6 23 rfl rfl)
theorem dX0_sheet_164 : decode cX0_sheet 164 = .ok (.invokevirtual 149, 3) := dk_182 0 149 (dk_at dksX0_sheet_7 0 rfl rfl)
theorem dX0_sheet_167 : decode cX0_sheet 167 = .ok (.aload_n 0, 1) := dk_42 (dk_at dksX0_sheet_7 3 rfl rfl)
theorem dX0_sheet_168 : decode cX0_sheet 168 = .ok (.getfield 33, 3) := dk_180 0 33 (dk_at dksX0_sheet_7 4 rfl rfl)
theorem dX0_sheet_171 : decode cX0_sheet 171 = .ok (.invokevirtual 102, 3) := dk_182 0 102 (dk_at dksX0_sheet_7 7 rfl rfl)
theorem dX0_sheet_174 : decode cX0_sheet 174 = .ok (.ireturn, 1) := dk_172 (dk_at dksX0_sheet_7 10 rfl rfl)
def dkwX0_stale_0 : List UInt8 := [42, 3, 181, 0, 92, 42, 3, 181, 0, 96, 42, 3, 181, 0, 99, 177]
abbrev dktX0_stale_0 : List UInt8 := dkwX0_stale_0 ++ []
theorem dksX0_stale_0 : cX0_stale.data.toList.drop 0 = dktX0_stale_0 := by decide +kernel
theorem dX0_stale_0 : decode cX0_stale 0 = .ok (.aload_n 0, 1) := dk_42 (dk_at dksX0_stale_0 0 rfl rfl)
theorem dX0_stale_1 : decode cX0_stale 1 = .ok (.iconst 0, 1) := dk_3 (dk_at dksX0_stale_0 1 rfl rfl)
theorem dX0_stale_2 : decode cX0_stale 2 = .ok (.putfield 92, 3) := dk_181 0 92 (dk_at dksX0_stale_0 2 rfl rfl)
theorem dX0_stale_5 : decode cX0_stale 5 = .ok (.aload_n 0, 1) := dk_42 (dk_at dksX0_stale_0 5 rfl rfl)
theorem dX0_stale_6 : decode cX0_stale 6 = .ok (.iconst 0, 1) := dk_3 (dk_at dksX0_stale_0 6 rfl rfl)
theorem dX0_stale_7 : decode cX0_stale 7 = .ok (.putfield 96, 3) := dk_181 0 96 (dk_at dksX0_stale_0 7 rfl rfl)
theorem dX0_stale_10 : decode cX0_stale 10 = .ok (.aload_n 0, 1) := dk_42 (dk_at dksX0_stale_0 10 rfl rfl)
theorem dX0_stale_11 : decode cX0_stale 11 = .ok (.iconst 0, 1) := dk_3 (dk_at dksX0_stale_0 11 rfl rfl)
theorem dX0_stale_12 : decode cX0_stale 12 = .ok (.putfield 99, 3) := dk_181 0 99 (dk_at dksX0_stale_0 12 rfl rfl)
theorem dX0_stale_15 : decode cX0_stale 15 = .ok (.return_, 1) := dk_177 (dk_at dksX0_stale_0 15 rfl rfl)
def dkwX0_voter_3 : List UInt8 := [172, 45, 180, 0, 168, 172, 2, 172]
abbrev dktX0_voter_3 : List UInt8 := dkwX0_voter_3 ++ []
def dkwX0_voter_2 : List UInt8 := [45, 180, 0, 156, 172, 45, 180, 0, 159, 172, 45, 180, 0, 144, 172, 45, 182, 0, 162, 172, 45, 180, 0, 165]
abbrev dktX0_voter_2 : List UInt8 := dkwX0_voter_2 ++ dktX0_voter_3
def dkwX0_voter_1 : List UInt8 := [170, 0, 0, 0, 0, 0, 69, 0, 0, 0, 0, 0, 0, 0, 5, 0, 0, 0, 39, 0, 0, 0, 44, 0, 0, 0, 49, 0, 0, 0, 54, 0, 0, 0, 59, 0, 0, 0, 64]
abbrev dktX0_voter_1 : List UInt8 := dkwX0_voter_1 ++ dktX0_voter_2
def dkwX0_voter_0 : List UInt8 := [42, 27, 182, 0, 152, 78, 45, 199, 0, 5, 2, 172, 28]
abbrev dktX0_voter_0 : List UInt8 := dkwX0_voter_0 ++ dktX0_voter_1
theorem dksX0_voter_0 : cX0_voter.data.toList.drop 0 = dktX0_voter_0 := by decide +kernel
theorem dksX0_voter_1 : cX0_voter.data.toList.drop 13 = dktX0_voter_1 := dk_seg dksX0_voter_0 13 rfl rfl
theorem dksX0_voter_2 : cX0_voter.data.toList.drop 52 = dktX0_voter_2 := dk_seg dksX0_voter_1 39 rfl rfl
theorem dksX0_voter_3 : cX0_voter.data.toList.drop 76 = dktX0_voter_3 := dk_seg dksX0_voter_2 24 rfl rfl
theorem dX0_voter_0 : decode cX0_voter 0 = .ok (.aload_n 0, 1) := dk_42 (dk_at dksX0_voter_0 0 rfl rfl)
theorem dX0_voter_1 : decode cX0_voter 1 = .ok (.iload_n 1, 1) := dk_27 (dk_at dksX0_voter_0 1 rfl rfl)
theorem dX0_voter_2 : decode cX0_voter 2 = .ok (.invokevirtual 152, 3) := dk_182 0 152 (dk_at dksX0_voter_0 2 rfl rfl)
theorem dX0_voter_5 : decode cX0_voter 5 = .ok (.astore_n 3, 1) := dk_78 (dk_at dksX0_voter_0 5 rfl rfl)
theorem dX0_voter_6 : decode cX0_voter 6 = .ok (.aload_n 3, 1) := dk_45 (dk_at dksX0_voter_0 6 rfl rfl)
theorem dX0_voter_7 : decode cX0_voter 7 = .ok (.ifnonnull 5, 3) := dk_199 0 5 (dk_at dksX0_voter_0 7 rfl rfl)
theorem dX0_voter_10 : decode cX0_voter 10 = .ok (.iconst (-1), 1) := dk_2 (dk_at dksX0_voter_0 10 rfl rfl)
theorem dX0_voter_11 : decode cX0_voter 11 = .ok (.ireturn, 1) := dk_172 (dk_at dksX0_voter_0 11 rfl rfl)
theorem dX0_voter_12 : decode cX0_voter 12 = .ok (.iload_n 2, 1) := dk_28 (dk_at dksX0_voter_0 12 rfl rfl)
theorem dX0_voter_13 : decode cX0_voter 13 = .ok (.tableswitch 69 0 5 #[39, 44, 49, 54, 59, 64], 39) := by decide +kernel
theorem dX0_voter_52 : decode cX0_voter 52 = .ok (.aload_n 3, 1) := dk_45 (dk_at dksX0_voter_2 0 rfl rfl)
theorem dX0_voter_53 : decode cX0_voter 53 = .ok (.getfield 156, 3) := dk_180 0 156 (dk_at dksX0_voter_2 1 rfl rfl)
theorem dX0_voter_56 : decode cX0_voter 56 = .ok (.ireturn, 1) := dk_172 (dk_at dksX0_voter_2 4 rfl rfl)
theorem dX0_voter_57 : decode cX0_voter 57 = .ok (.aload_n 3, 1) := dk_45 (dk_at dksX0_voter_2 5 rfl rfl)
theorem dX0_voter_58 : decode cX0_voter 58 = .ok (.getfield 159, 3) := dk_180 0 159 (dk_at dksX0_voter_2 6 rfl rfl)
theorem dX0_voter_61 : decode cX0_voter 61 = .ok (.ireturn, 1) := dk_172 (dk_at dksX0_voter_2 9 rfl rfl)
theorem dX0_voter_62 : decode cX0_voter 62 = .ok (.aload_n 3, 1) := dk_45 (dk_at dksX0_voter_2 10 rfl rfl)
theorem dX0_voter_63 : decode cX0_voter 63 = .ok (.getfield 144, 3) := dk_180 0 144 (dk_at dksX0_voter_2 11 rfl rfl)
theorem dX0_voter_66 : decode cX0_voter 66 = .ok (.ireturn, 1) := dk_172 (dk_at dksX0_voter_2 14 rfl rfl)
theorem dX0_voter_67 : decode cX0_voter 67 = .ok (.aload_n 3, 1) := dk_45 (dk_at dksX0_voter_2 15 rfl rfl)
theorem dX0_voter_68 : decode cX0_voter 68 = .ok (.invokevirtual 162, 3) := dk_182 0 162 (dk_at dksX0_voter_2 16 rfl rfl)
theorem dX0_voter_71 : decode cX0_voter 71 = .ok (.ireturn, 1) := dk_172 (dk_at dksX0_voter_2 19 rfl rfl)
theorem dX0_voter_72 : decode cX0_voter 72 = .ok (.aload_n 3, 1) := dk_45 (dk_at dksX0_voter_2 20 rfl rfl)
theorem dX0_voter_73 : decode cX0_voter 73 = .ok (.getfield 165, 3) := dk_180 0 165 (dk_at dksX0_voter_2 21 rfl rfl)
theorem dX0_voter_76 : decode cX0_voter 76 = .ok (.ireturn, 1) := dk_172 (dk_at dksX0_voter_3 0 rfl rfl)
theorem dX0_voter_77 : decode cX0_voter 77 = .ok (.aload_n 3, 1) := dk_45 (dk_at dksX0_voter_3 1 rfl rfl)
theorem dX0_voter_78 : decode cX0_voter 78 = .ok (.getfield 168, 3) := dk_180 0 168 (dk_at dksX0_voter_3 2 rfl rfl)
theorem dX0_voter_81 : decode cX0_voter 81 = .ok (.ireturn, 1) := dk_172 (dk_at dksX0_voter_3 5 rfl rfl)
theorem dX0_voter_82 : decode cX0_voter 82 = .ok (.iconst (-1), 1) := dk_2 (dk_at dksX0_voter_3 6 rfl rfl)
theorem dX0_voter_83 : decode cX0_voter 83 = .ok (.ireturn, 1) := dk_172 (dk_at dksX0_voter_3 7 rfl rfl)
def dkwX0_voterAt_1 : List UInt8 := [182, 0, 106, 192, 0, 110, 167, 0, 4, 1, 176]
abbrev dktX0_voterAt_1 : List UInt8 := dkwX0_voterAt_1 ++ []
def dkwX0_voterAt_0 : List UInt8 := [27, 3, 42, 180, 0, 33, 182, 0, 102, 4, 100, 184, 0, 3, 153, 0, 17, 42, 180, 0, 33, 27]
abbrev dktX0_voterAt_0 : List UInt8 := dkwX0_voterAt_0 ++ dktX0_voterAt_1
theorem dksX0_voterAt_0 : cX0_voterAt.data.toList.drop 0 = dktX0_voterAt_0 := by decide +kernel
theorem dksX0_voterAt_1 : cX0_voterAt.data.toList.drop 22 = dktX0_voterAt_1 := dk_seg dksX0_voterAt_0 22 rfl rfl
theorem dX0_voterAt_0 : decode cX0_voterAt 0 = .ok (.iload_n 1, 1) := dk_27 (dk_at dksX0_voterAt_0 0 rfl rfl)
theorem dX0_voterAt_1 : decode cX0_voterAt 1 = .ok (.iconst 0, 1) := dk_3 (dk_at dksX0_voterAt_0 1 rfl rfl)
theorem dX0_voterAt_2 : decode cX0_voterAt 2 = .ok (.aload_n 0, 1) := dk_42 (dk_at dksX0_voterAt_0 2 rfl rfl)
theorem dX0_voterAt_3 : decode cX0_voterAt 3 = .ok (.getfield 33, 3) := dk_180 0 33 (dk_at dksX0_voterAt_0 3 rfl rfl)
theorem dX0_voterAt_6 : decode cX0_voterAt 6 = .ok (.invokevirtual 102, 3) := dk_182 0 102 (dk_at dksX0_voterAt_0 6 rfl rfl)
theorem dX0_voterAt_9 : decode cX0_voterAt 9 = .ok (.iconst 1, 1) := dk_4 (dk_at dksX0_voterAt_0 9 rfl rfl)
theorem dX0_voterAt_10 : decode cX0_voterAt 10 = .ok (.isub, 1) := dk_100 (dk_at dksX0_voterAt_0 10 rfl rfl)
theorem dX0_voterAt_11 : decode cX0_voterAt 11 = .ok (.invokestatic 3, 3) := dk_184 0 3 (dk_at dksX0_voterAt_0 11 rfl rfl)
theorem dX0_voterAt_14 : decode cX0_voterAt 14 = .ok (.ifCond .eq 17, 3) := dk_153 0 17 (dk_at dksX0_voterAt_0 14 rfl rfl)
theorem dX0_voterAt_17 : decode cX0_voterAt 17 = .ok (.aload_n 0, 1) := dk_42 (dk_at dksX0_voterAt_0 17 rfl rfl)
theorem dX0_voterAt_18 : decode cX0_voterAt 18 = .ok (.getfield 33, 3) := dk_180 0 33 (dk_at dksX0_voterAt_0 18 rfl rfl)
theorem dX0_voterAt_21 : decode cX0_voterAt 21 = .ok (.iload_n 1, 1) := dk_27 (dk_at dksX0_voterAt_0 21 rfl rfl)
theorem dX0_voterAt_22 : decode cX0_voterAt 22 = .ok (.invokevirtual 106, 3) := dk_182 0 106 (dk_at dksX0_voterAt_1 0 rfl rfl)
theorem dX0_voterAt_25 : decode cX0_voterAt 25 = .ok (.checkcast 110, 3) := dk_192 0 110 (dk_at dksX0_voterAt_1 3 rfl rfl)
theorem dX0_voterAt_28 : decode cX0_voterAt 28 = .ok (.goto 4, 3) := dk_167 0 4 (dk_at dksX0_voterAt_1 6 rfl rfl)
theorem dX0_voterAt_31 : decode cX0_voterAt 31 = .ok (.aconst_null, 1) := dk_1 (dk_at dksX0_voterAt_1 9 rfl rfl)
theorem dX0_voterAt_32 : decode cX0_voterAt 32 = .ok (.areturn, 1) := dk_176 (dk_at dksX0_voterAt_1 10 rfl rfl)
def dkwX0_place_1 : List UInt8 := [167, 0, 16, 28, 4, 160, 0, 10, 45, 180, 0, 176, 167, 0, 4, 2, 172]
abbrev dktX0_place_1 : List UInt8 := dkwX0_place_1 ++ []
def dkwX0_place_0 : List UInt8 := [42, 27, 182, 0, 171, 78, 45, 199, 0, 7, 2, 167, 0, 27, 28, 154, 0, 10, 45, 180, 0, 175]
abbrev dktX0_place_0 : List UInt8 := dkwX0_place_0 ++ dktX0_place_1
theorem dksX0_place_0 : cX0_place.data.toList.drop 0 = dktX0_place_0 := by decide +kernel
theorem dksX0_place_1 : cX0_place.data.toList.drop 22 = dktX0_place_1 := dk_seg dksX0_place_0 22 rfl rfl
theorem dX0_place_0 : decode cX0_place 0 = .ok (.aload_n 0, 1) := dk_42 (dk_at dksX0_place_0 0 rfl rfl)
theorem dX0_place_1 : decode cX0_place 1 = .ok (.iload_n 1, 1) := dk_27 (dk_at dksX0_place_0 1 rfl rfl)
theorem dX0_place_2 : decode cX0_place 2 = .ok (.invokevirtual 171, 3) := dk_182 0 171 (dk_at dksX0_place_0 2 rfl rfl)
theorem dX0_place_5 : decode cX0_place 5 = .ok (.astore_n 3, 1) := dk_78 (dk_at dksX0_place_0 5 rfl rfl)
theorem dX0_place_6 : decode cX0_place 6 = .ok (.aload_n 3, 1) := dk_45 (dk_at dksX0_place_0 6 rfl rfl)
theorem dX0_place_7 : decode cX0_place 7 = .ok (.ifnonnull 7, 3) := dk_199 0 7 (dk_at dksX0_place_0 7 rfl rfl)
theorem dX0_place_10 : decode cX0_place 10 = .ok (.iconst (-1), 1) := dk_2 (dk_at dksX0_place_0 10 rfl rfl)
theorem dX0_place_11 : decode cX0_place 11 = .ok (.goto 27, 3) := dk_167 0 27 (dk_at dksX0_place_0 11 rfl rfl)
theorem dX0_place_14 : decode cX0_place 14 = .ok (.iload_n 2, 1) := dk_28 (dk_at dksX0_place_0 14 rfl rfl)
theorem dX0_place_15 : decode cX0_place 15 = .ok (.ifCond .ne 10, 3) := dk_154 0 10 (dk_at dksX0_place_0 15 rfl rfl)
theorem dX0_place_18 : decode cX0_place 18 = .ok (.aload_n 3, 1) := dk_45 (dk_at dksX0_place_0 18 rfl rfl)
theorem dX0_place_19 : decode cX0_place 19 = .ok (.getfield 175, 3) := dk_180 0 175 (dk_at dksX0_place_0 19 rfl rfl)
theorem dX0_place_22 : decode cX0_place 22 = .ok (.goto 16, 3) := dk_167 0 16 (dk_at dksX0_place_1 0 rfl rfl)
theorem dX0_place_25 : decode cX0_place 25 = .ok (.iload_n 2, 1) := dk_28 (dk_at dksX0_place_1 3 rfl rfl)
theorem dX0_place_26 : decode cX0_place 26 = .ok (.iconst 1, 1) := dk_4 (dk_at dksX0_place_1 4 rfl rfl)
theorem dX0_place_27 : decode cX0_place 27 = .ok (.if_icmp .ne 10, 3) := dk_160 0 10 (dk_at dksX0_place_1 5 rfl rfl)
theorem dX0_place_30 : decode cX0_place 30 = .ok (.aload_n 3, 1) := dk_45 (dk_at dksX0_place_1 8 rfl rfl)
theorem dX0_place_31 : decode cX0_place 31 = .ok (.getfield 176, 3) := dk_180 0 176 (dk_at dksX0_place_1 9 rfl rfl)
theorem dX0_place_34 : decode cX0_place 34 = .ok (.goto 4, 3) := dk_167 0 4 (dk_at dksX0_place_1 12 rfl rfl)
theorem dX0_place_37 : decode cX0_place 37 = .ok (.iconst (-1), 1) := dk_2 (dk_at dksX0_place_1 15 rfl rfl)
theorem dX0_place_38 : decode cX0_place 38 = .ok (.ireturn, 1) := dk_172 (dk_at dksX0_place_1 16 rfl rfl)
def dkwX0_placeAt_1 : List UInt8 := [182, 0, 106, 192, 0, 112, 167, 0, 4, 1, 176]
abbrev dktX0_placeAt_1 : List UInt8 := dkwX0_placeAt_1 ++ []
def dkwX0_placeAt_0 : List UInt8 := [27, 3, 42, 180, 0, 37, 182, 0, 102, 4, 100, 184, 0, 3, 153, 0, 17, 42, 180, 0, 37, 27]
abbrev dktX0_placeAt_0 : List UInt8 := dkwX0_placeAt_0 ++ dktX0_placeAt_1
theorem dksX0_placeAt_0 : cX0_placeAt.data.toList.drop 0 = dktX0_placeAt_0 := by decide +kernel
theorem dksX0_placeAt_1 : cX0_placeAt.data.toList.drop 22 = dktX0_placeAt_1 := dk_seg dksX0_placeAt_0 22 rfl rfl
theorem dX0_placeAt_0 : decode cX0_placeAt 0 = .ok (.iload_n 1, 1) := dk_27 (dk_at dksX0_placeAt_0 0 rfl rfl)
theorem dX0_placeAt_1 : decode cX0_placeAt 1 = .ok (.iconst 0, 1) := dk_3 (dk_at dksX0_placeAt_0 1 rfl rfl)
theorem dX0_placeAt_2 : decode cX0_placeAt 2 = .ok (.aload_n 0, 1) := dk_42 (dk_at dksX0_placeAt_0 2 rfl rfl)
theorem dX0_placeAt_3 : decode cX0_placeAt 3 = .ok (.getfield 37, 3) := dk_180 0 37 (dk_at dksX0_placeAt_0 3 rfl rfl)
theorem dX0_placeAt_6 : decode cX0_placeAt 6 = .ok (.invokevirtual 102, 3) := dk_182 0 102 (dk_at dksX0_placeAt_0 6 rfl rfl)
theorem dX0_placeAt_9 : decode cX0_placeAt 9 = .ok (.iconst 1, 1) := dk_4 (dk_at dksX0_placeAt_0 9 rfl rfl)
theorem dX0_placeAt_10 : decode cX0_placeAt 10 = .ok (.isub, 1) := dk_100 (dk_at dksX0_placeAt_0 10 rfl rfl)
theorem dX0_placeAt_11 : decode cX0_placeAt 11 = .ok (.invokestatic 3, 3) := dk_184 0 3 (dk_at dksX0_placeAt_0 11 rfl rfl)
theorem dX0_placeAt_14 : decode cX0_placeAt 14 = .ok (.ifCond .eq 17, 3) := dk_153 0 17 (dk_at dksX0_placeAt_0 14 rfl rfl)
theorem dX0_placeAt_17 : decode cX0_placeAt 17 = .ok (.aload_n 0, 1) := dk_42 (dk_at dksX0_placeAt_0 17 rfl rfl)
theorem dX0_placeAt_18 : decode cX0_placeAt 18 = .ok (.getfield 37, 3) := dk_180 0 37 (dk_at dksX0_placeAt_0 18 rfl rfl)
theorem dX0_placeAt_21 : decode cX0_placeAt 21 = .ok (.iload_n 1, 1) := dk_27 (dk_at dksX0_placeAt_0 21 rfl rfl)
theorem dX0_placeAt_22 : decode cX0_placeAt 22 = .ok (.invokevirtual 106, 3) := dk_182 0 106 (dk_at dksX0_placeAt_1 0 rfl rfl)
theorem dX0_placeAt_25 : decode cX0_placeAt 25 = .ok (.checkcast 112, 3) := dk_192 0 112 (dk_at dksX0_placeAt_1 3 rfl rfl)
theorem dX0_placeAt_28 : decode cX0_placeAt 28 = .ok (.goto 4, 3) := dk_167 0 4 (dk_at dksX0_placeAt_1 6 rfl rfl)
theorem dX0_placeAt_31 : decode cX0_placeAt 31 = .ok (.aconst_null, 1) := dk_1 (dk_at dksX0_placeAt_1 9 rfl rfl)
theorem dX0_placeAt_32 : decode cX0_placeAt 32 = .ok (.areturn, 1) := dk_176 (dk_at dksX0_placeAt_1 10 rfl rfl)
def dkwX0_propose_2 : List UInt8 := [182, 0, 140, 87, 42, 180, 0, 37, 182, 0, 102, 4, 100, 172]
abbrev dktX0_propose_2 : List UInt8 := dkwX0_propose_2 ++ []
def dkwX0_propose_1 : List UInt8 := [182, 0, 102, 16, 20, 160, 0, 5, 2, 172, 42, 180, 0, 37, 187, 0, 112, 89, 27, 28, 183, 0, 185]
abbrev dktX0_propose_1 : List UInt8 := dkwX0_propose_1 ++ dktX0_propose_2
def dkwX0_propose_0 : List UInt8 := [42, 180, 0, 33, 182, 0, 177, 154, 0, 23, 27, 28, 184, 0, 181, 153, 0, 15, 42, 180, 0, 37]
abbrev dktX0_propose_0 : List UInt8 := dkwX0_propose_0 ++ dktX0_propose_1
theorem dksX0_propose_0 : cX0_propose.data.toList.drop 0 = dktX0_propose_0 := by decide +kernel
theorem dksX0_propose_1 : cX0_propose.data.toList.drop 22 = dktX0_propose_1 := dk_seg dksX0_propose_0 22 rfl rfl
theorem dksX0_propose_2 : cX0_propose.data.toList.drop 45 = dktX0_propose_2 := dk_seg dksX0_propose_1 23 rfl rfl
theorem dX0_propose_0 : decode cX0_propose 0 = .ok (.aload_n 0, 1) := dk_42 (dk_at dksX0_propose_0 0 rfl rfl)
theorem dX0_propose_1 : decode cX0_propose 1 = .ok (.getfield 33, 3) := dk_180 0 33 (dk_at dksX0_propose_0 1 rfl rfl)
theorem dX0_propose_4 : decode cX0_propose 4 = .ok (.invokevirtual 177, 3) := dk_182 0 177 (dk_at dksX0_propose_0 4 rfl rfl)
theorem dX0_propose_7 : decode cX0_propose 7 = .ok (.ifCond .ne 23, 3) := dk_154 0 23 (dk_at dksX0_propose_0 7 rfl rfl)
theorem dX0_propose_10 : decode cX0_propose 10 = .ok (.iload_n 1, 1) := dk_27 (dk_at dksX0_propose_0 10 rfl rfl)
theorem dX0_propose_11 : decode cX0_propose 11 = .ok (.iload_n 2, 1) := dk_28 (dk_at dksX0_propose_0 11 rfl rfl)
theorem dX0_propose_12 : decode cX0_propose 12 = .ok (.invokestatic 181, 3) := dk_184 0 181 (dk_at dksX0_propose_0 12 rfl rfl)
theorem dX0_propose_15 : decode cX0_propose 15 = .ok (.ifCond .eq 15, 3) := dk_153 0 15 (dk_at dksX0_propose_0 15 rfl rfl)
theorem dX0_propose_18 : decode cX0_propose 18 = .ok (.aload_n 0, 1) := dk_42 (dk_at dksX0_propose_0 18 rfl rfl)
theorem dX0_propose_19 : decode cX0_propose 19 = .ok (.getfield 37, 3) := dk_180 0 37 (dk_at dksX0_propose_0 19 rfl rfl)
theorem dX0_propose_22 : decode cX0_propose 22 = .ok (.invokevirtual 102, 3) := dk_182 0 102 (dk_at dksX0_propose_1 0 rfl rfl)
theorem dX0_propose_25 : decode cX0_propose 25 = .ok (.bipush 20, 2) := dk_16 20 (dk_at dksX0_propose_1 3 rfl rfl)
theorem dX0_propose_27 : decode cX0_propose 27 = .ok (.if_icmp .ne 5, 3) := dk_160 0 5 (dk_at dksX0_propose_1 5 rfl rfl)
theorem dX0_propose_30 : decode cX0_propose 30 = .ok (.iconst (-1), 1) := dk_2 (dk_at dksX0_propose_1 8 rfl rfl)
theorem dX0_propose_31 : decode cX0_propose 31 = .ok (.ireturn, 1) := dk_172 (dk_at dksX0_propose_1 9 rfl rfl)
theorem dX0_propose_32 : decode cX0_propose 32 = .ok (.aload_n 0, 1) := dk_42 (dk_at dksX0_propose_1 10 rfl rfl)
theorem dX0_propose_33 : decode cX0_propose 33 = .ok (.getfield 37, 3) := dk_180 0 37 (dk_at dksX0_propose_1 11 rfl rfl)
theorem dX0_propose_36 : decode cX0_propose 36 = .ok (.new 112, 3) := dk_187 0 112 (dk_at dksX0_propose_1 14 rfl rfl)
theorem dX0_propose_39 : decode cX0_propose 39 = .ok (.dup, 1) := dk_89 (dk_at dksX0_propose_1 17 rfl rfl)
theorem dX0_propose_40 : decode cX0_propose 40 = .ok (.iload_n 1, 1) := dk_27 (dk_at dksX0_propose_1 18 rfl rfl)
theorem dX0_propose_41 : decode cX0_propose 41 = .ok (.iload_n 2, 1) := dk_28 (dk_at dksX0_propose_1 19 rfl rfl)
theorem dX0_propose_42 : decode cX0_propose 42 = .ok (.invokespecial 185, 3) := dk_183 0 185 (dk_at dksX0_propose_1 20 rfl rfl)
theorem dX0_propose_45 : decode cX0_propose 45 = .ok (.invokevirtual 140, 3) := dk_182 0 140 (dk_at dksX0_propose_2 0 rfl rfl)
theorem dX0_propose_48 : decode cX0_propose 48 = .ok (.pop, 1) := dk_87 (dk_at dksX0_propose_2 3 rfl rfl)
theorem dX0_propose_49 : decode cX0_propose 49 = .ok (.aload_n 0, 1) := dk_42 (dk_at dksX0_propose_2 4 rfl rfl)
theorem dX0_propose_50 : decode cX0_propose 50 = .ok (.getfield 37, 3) := dk_180 0 37 (dk_at dksX0_propose_2 5 rfl rfl)
theorem dX0_propose_53 : decode cX0_propose 53 = .ok (.invokevirtual 102, 3) := dk_182 0 102 (dk_at dksX0_propose_2 8 rfl rfl)
theorem dX0_propose_56 : decode cX0_propose 56 = .ok (.iconst 1, 1) := dk_4 (dk_at dksX0_propose_2 11 rfl rfl)
theorem dX0_propose_57 : decode cX0_propose 57 = .ok (.isub, 1) := dk_100 (dk_at dksX0_propose_2 12 rfl rfl)
theorem dX0_propose_58 : decode cX0_propose 58 = .ok (.ireturn, 1) := dk_172 (dk_at dksX0_propose_2 13 rfl rfl)
def dkwX0_isPoint_1 : List UInt8 := [3, 172]
abbrev dktX0_isPoint_1 : List UInt8 := dkwX0_isPoint_1 ++ []
def dkwX0_isPoint_0 : List UInt8 := [26, 3, 16, 99, 184, 0, 3, 153, 0, 17, 27, 3, 16, 99, 184, 0, 3, 153, 0, 7, 4, 167, 0, 4]
abbrev dktX0_isPoint_0 : List UInt8 := dkwX0_isPoint_0 ++ dktX0_isPoint_1
theorem dksX0_isPoint_0 : cX0_isPoint.data.toList.drop 0 = dktX0_isPoint_0 := by decide +kernel
theorem dksX0_isPoint_1 : cX0_isPoint.data.toList.drop 24 = dktX0_isPoint_1 := dk_seg dksX0_isPoint_0 24 rfl rfl
theorem dX0_isPoint_0 : decode cX0_isPoint 0 = .ok (.iload_n 0, 1) := dk_26 (dk_at dksX0_isPoint_0 0 rfl rfl)
theorem dX0_isPoint_1 : decode cX0_isPoint 1 = .ok (.iconst 0, 1) := dk_3 (dk_at dksX0_isPoint_0 1 rfl rfl)
theorem dX0_isPoint_2 : decode cX0_isPoint 2 = .ok (.bipush 99, 2) := dk_16 99 (dk_at dksX0_isPoint_0 2 rfl rfl)
theorem dX0_isPoint_4 : decode cX0_isPoint 4 = .ok (.invokestatic 3, 3) := dk_184 0 3 (dk_at dksX0_isPoint_0 4 rfl rfl)
theorem dX0_isPoint_7 : decode cX0_isPoint 7 = .ok (.ifCond .eq 17, 3) := dk_153 0 17 (dk_at dksX0_isPoint_0 7 rfl rfl)
theorem dX0_isPoint_10 : decode cX0_isPoint 10 = .ok (.iload_n 1, 1) := dk_27 (dk_at dksX0_isPoint_0 10 rfl rfl)
theorem dX0_isPoint_11 : decode cX0_isPoint 11 = .ok (.iconst 0, 1) := dk_3 (dk_at dksX0_isPoint_0 11 rfl rfl)
theorem dX0_isPoint_12 : decode cX0_isPoint 12 = .ok (.bipush 99, 2) := dk_16 99 (dk_at dksX0_isPoint_0 12 rfl rfl)
theorem dX0_isPoint_14 : decode cX0_isPoint 14 = .ok (.invokestatic 3, 3) := dk_184 0 3 (dk_at dksX0_isPoint_0 14 rfl rfl)
theorem dX0_isPoint_17 : decode cX0_isPoint 17 = .ok (.ifCond .eq 7, 3) := dk_153 0 7 (dk_at dksX0_isPoint_0 17 rfl rfl)
theorem dX0_isPoint_20 : decode cX0_isPoint 20 = .ok (.iconst 1, 1) := dk_4 (dk_at dksX0_isPoint_0 20 rfl rfl)
theorem dX0_isPoint_21 : decode cX0_isPoint 21 = .ok (.goto 4, 3) := dk_167 0 4 (dk_at dksX0_isPoint_0 21 rfl rfl)
theorem dX0_isPoint_24 : decode cX0_isPoint 24 = .ok (.iconst 0, 1) := dk_3 (dk_at dksX0_isPoint_1 0 rfl rfl)
theorem dX0_isPoint_25 : decode cX0_isPoint 25 = .ok (.ireturn, 1) := dk_172 (dk_at dksX0_isPoint_1 1 rfl rfl)
def dkwX0_way_1 : List UInt8 := [25, 4, 28, 29, 182, 0, 188, 172]
abbrev dktX0_way_1 : List UInt8 := dkwX0_way_1 ++ []
def dkwX0_way_0 : List UInt8 := [42, 27, 182, 0, 152, 58, 4, 25, 4, 198, 0, 11, 28, 29, 184, 0, 181, 154, 0, 7, 2, 167, 0, 10]
abbrev dktX0_way_0 : List UInt8 := dkwX0_way_0 ++ dktX0_way_1
theorem dksX0_way_0 : cX0_way.data.toList.drop 0 = dktX0_way_0 := by decide +kernel
theorem dksX0_way_1 : cX0_way.data.toList.drop 24 = dktX0_way_1 := dk_seg dksX0_way_0 24 rfl rfl
theorem dX0_way_0 : decode cX0_way 0 = .ok (.aload_n 0, 1) := dk_42 (dk_at dksX0_way_0 0 rfl rfl)
theorem dX0_way_1 : decode cX0_way 1 = .ok (.iload_n 1, 1) := dk_27 (dk_at dksX0_way_0 1 rfl rfl)
theorem dX0_way_2 : decode cX0_way 2 = .ok (.invokevirtual 152, 3) := dk_182 0 152 (dk_at dksX0_way_0 2 rfl rfl)
theorem dX0_way_5 : decode cX0_way 5 = .ok (.astore 4, 2) := dk_58 4 (dk_at dksX0_way_0 5 rfl rfl)
theorem dX0_way_7 : decode cX0_way 7 = .ok (.aload 4, 2) := dk_25 4 (dk_at dksX0_way_0 7 rfl rfl)
theorem dX0_way_9 : decode cX0_way 9 = .ok (.ifnull 11, 3) := dk_198 0 11 (dk_at dksX0_way_0 9 rfl rfl)
theorem dX0_way_12 : decode cX0_way 12 = .ok (.iload_n 2, 1) := dk_28 (dk_at dksX0_way_0 12 rfl rfl)
theorem dX0_way_13 : decode cX0_way 13 = .ok (.iload_n 3, 1) := dk_29 (dk_at dksX0_way_0 13 rfl rfl)
theorem dX0_way_14 : decode cX0_way 14 = .ok (.invokestatic 181, 3) := dk_184 0 181 (dk_at dksX0_way_0 14 rfl rfl)
theorem dX0_way_17 : decode cX0_way 17 = .ok (.ifCond .ne 7, 3) := dk_154 0 7 (dk_at dksX0_way_0 17 rfl rfl)
theorem dX0_way_20 : decode cX0_way 20 = .ok (.iconst (-1), 1) := dk_2 (dk_at dksX0_way_0 20 rfl rfl)
theorem dX0_way_21 : decode cX0_way 21 = .ok (.goto 10, 3) := dk_167 0 10 (dk_at dksX0_way_0 21 rfl rfl)
theorem dX0_way_24 : decode cX0_way 24 = .ok (.aload 4, 2) := dk_25 4 (dk_at dksX0_way_1 0 rfl rfl)
theorem dX0_way_26 : decode cX0_way 26 = .ok (.iload_n 2, 1) := dk_28 (dk_at dksX0_way_1 2 rfl rfl)
theorem dX0_way_27 : decode cX0_way 27 = .ok (.iload_n 3, 1) := dk_29 (dk_at dksX0_way_1 3 rfl rfl)
theorem dX0_way_28 : decode cX0_way 28 = .ok (.invokevirtual 188, 3) := dk_182 0 188 (dk_at dksX0_way_1 4 rfl rfl)
theorem dX0_way_31 : decode cX0_way 31 = .ok (.ireturn, 1) := dk_172 (dk_at dksX0_way_1 7 rfl rfl)
def dkwX0_votes_1 : List UInt8 := [167, 0, 10, 42, 45, 25, 4, 182, 0, 206, 172]
abbrev dktX0_votes_1 : List UInt8 := dkwX0_votes_1 ++ []
def dkwX0_votes_0 : List UInt8 := [42, 27, 182, 0, 171, 78, 42, 28, 182, 0, 171, 58, 4, 45, 198, 0, 8, 25, 4, 199, 0, 7, 2]
abbrev dktX0_votes_0 : List UInt8 := dkwX0_votes_0 ++ dktX0_votes_1
theorem dksX0_votes_0 : cX0_votes.data.toList.drop 0 = dktX0_votes_0 := by decide +kernel
theorem dksX0_votes_1 : cX0_votes.data.toList.drop 23 = dktX0_votes_1 := dk_seg dksX0_votes_0 23 rfl rfl
theorem dX0_votes_0 : decode cX0_votes 0 = .ok (.aload_n 0, 1) := dk_42 (dk_at dksX0_votes_0 0 rfl rfl)
theorem dX0_votes_1 : decode cX0_votes 1 = .ok (.iload_n 1, 1) := dk_27 (dk_at dksX0_votes_0 1 rfl rfl)
theorem dX0_votes_2 : decode cX0_votes 2 = .ok (.invokevirtual 171, 3) := dk_182 0 171 (dk_at dksX0_votes_0 2 rfl rfl)
theorem dX0_votes_5 : decode cX0_votes 5 = .ok (.astore_n 3, 1) := dk_78 (dk_at dksX0_votes_0 5 rfl rfl)
theorem dX0_votes_6 : decode cX0_votes 6 = .ok (.aload_n 0, 1) := dk_42 (dk_at dksX0_votes_0 6 rfl rfl)
theorem dX0_votes_7 : decode cX0_votes 7 = .ok (.iload_n 2, 1) := dk_28 (dk_at dksX0_votes_0 7 rfl rfl)
theorem dX0_votes_8 : decode cX0_votes 8 = .ok (.invokevirtual 171, 3) := dk_182 0 171 (dk_at dksX0_votes_0 8 rfl rfl)
theorem dX0_votes_11 : decode cX0_votes 11 = .ok (.astore 4, 2) := dk_58 4 (dk_at dksX0_votes_0 11 rfl rfl)
theorem dX0_votes_13 : decode cX0_votes 13 = .ok (.aload_n 3, 1) := dk_45 (dk_at dksX0_votes_0 13 rfl rfl)
theorem dX0_votes_14 : decode cX0_votes 14 = .ok (.ifnull 8, 3) := dk_198 0 8 (dk_at dksX0_votes_0 14 rfl rfl)
theorem dX0_votes_17 : decode cX0_votes 17 = .ok (.aload 4, 2) := dk_25 4 (dk_at dksX0_votes_0 17 rfl rfl)
theorem dX0_votes_19 : decode cX0_votes 19 = .ok (.ifnonnull 7, 3) := dk_199 0 7 (dk_at dksX0_votes_0 19 rfl rfl)
theorem dX0_votes_22 : decode cX0_votes 22 = .ok (.iconst (-1), 1) := dk_2 (dk_at dksX0_votes_0 22 rfl rfl)
theorem dX0_votes_23 : decode cX0_votes 23 = .ok (.goto 10, 3) := dk_167 0 10 (dk_at dksX0_votes_1 0 rfl rfl)
theorem dX0_votes_26 : decode cX0_votes 26 = .ok (.aload_n 0, 1) := dk_42 (dk_at dksX0_votes_1 3 rfl rfl)
theorem dX0_votes_27 : decode cX0_votes 27 = .ok (.aload_n 3, 1) := dk_45 (dk_at dksX0_votes_1 4 rfl rfl)
theorem dX0_votes_28 : decode cX0_votes 28 = .ok (.aload 4, 2) := dk_25 4 (dk_at dksX0_votes_1 5 rfl rfl)
theorem dX0_votes_30 : decode cX0_votes 30 = .ok (.invokevirtual 206, 3) := dk_182 0 206 (dk_at dksX0_votes_1 7 rfl rfl)
theorem dX0_votes_33 : decode cX0_votes 33 = .ok (.ireturn, 1) := dk_172 (dk_at dksX0_votes_1 10 rfl rfl)
def dkwX0_votesOf_0 : List UInt8 := [42, 43, 180, 0, 175, 43, 180, 0, 176, 44, 180, 0, 175, 44, 180, 0, 176, 182, 0, 196, 172]
abbrev dktX0_votesOf_0 : List UInt8 := dkwX0_votesOf_0 ++ []
theorem dksX0_votesOf_0 : cX0_votesOf.data.toList.drop 0 = dktX0_votesOf_0 := by decide +kernel
theorem dX0_votesOf_0 : decode cX0_votesOf 0 = .ok (.aload_n 0, 1) := dk_42 (dk_at dksX0_votesOf_0 0 rfl rfl)
theorem dX0_votesOf_1 : decode cX0_votesOf 1 = .ok (.aload_n 1, 1) := dk_43 (dk_at dksX0_votesOf_0 1 rfl rfl)
theorem dX0_votesOf_2 : decode cX0_votesOf 2 = .ok (.getfield 175, 3) := dk_180 0 175 (dk_at dksX0_votesOf_0 2 rfl rfl)
theorem dX0_votesOf_5 : decode cX0_votesOf 5 = .ok (.aload_n 1, 1) := dk_43 (dk_at dksX0_votesOf_0 5 rfl rfl)
theorem dX0_votesOf_6 : decode cX0_votesOf 6 = .ok (.getfield 176, 3) := dk_180 0 176 (dk_at dksX0_votesOf_0 6 rfl rfl)
theorem dX0_votesOf_9 : decode cX0_votesOf 9 = .ok (.aload_n 2, 1) := dk_44 (dk_at dksX0_votesOf_0 9 rfl rfl)
theorem dX0_votesOf_10 : decode cX0_votesOf 10 = .ok (.getfield 175, 3) := dk_180 0 175 (dk_at dksX0_votesOf_0 10 rfl rfl)
theorem dX0_votesOf_13 : decode cX0_votesOf 13 = .ok (.aload_n 2, 1) := dk_44 (dk_at dksX0_votesOf_0 13 rfl rfl)
theorem dX0_votesOf_14 : decode cX0_votesOf 14 = .ok (.getfield 176, 3) := dk_180 0 176 (dk_at dksX0_votesOf_0 14 rfl rfl)
theorem dX0_votesOf_17 : decode cX0_votesOf 17 = .ok (.invokevirtual 196, 3) := dk_182 0 196 (dk_at dksX0_votesOf_0 17 rfl rfl)
theorem dX0_votesOf_20 : decode cX0_votesOf 20 = .ok (.ireturn, 1) := dk_172 (dk_at dksX0_votesOf_0 20 rfl rfl)
def dkwX0_votesFor_3 : List UInt8 := [21, 5, 172]
abbrev dktX0_votesFor_3 : List UInt8 := dkwX0_votesFor_3 ++ []
def dkwX0_votesFor_2 : List UInt8 := [21, 6, 182, 0, 106, 192, 0, 110, 180, 0, 144, 167, 0, 4, 3, 96, 54, 5, 132, 6, 1, 167, 255, 194]
abbrev dktX0_votesFor_2 : List UInt8 := dkwX0_votesFor_2 ++ dktX0_votesFor_3
def dkwX0_votesFor_1 : List UInt8 := [21, 6, 182, 0, 106, 192, 0, 110, 27, 28, 29, 21, 4, 182, 0, 192, 158, 0, 21, 42, 180, 0, 33]
abbrev dktX0_votesFor_1 : List UInt8 := dkwX0_votesFor_1 ++ dktX0_votesFor_2
def dkwX0_votesFor_0 : List UInt8 := [3, 54, 5, 3, 54, 6, 21, 6, 42, 180, 0, 33, 182, 0, 102, 162, 0, 56, 21, 5, 42, 180, 0, 33]
abbrev dktX0_votesFor_0 : List UInt8 := dkwX0_votesFor_0 ++ dktX0_votesFor_1
theorem dksX0_votesFor_0 : cX0_votesFor.data.toList.drop 0 = dktX0_votesFor_0 := by decide +kernel
theorem dksX0_votesFor_1 : cX0_votesFor.data.toList.drop 24 = dktX0_votesFor_1 := dk_seg dksX0_votesFor_0 24 rfl rfl
theorem dksX0_votesFor_2 : cX0_votesFor.data.toList.drop 47 = dktX0_votesFor_2 := dk_seg dksX0_votesFor_1 23 rfl rfl
theorem dksX0_votesFor_3 : cX0_votesFor.data.toList.drop 71 = dktX0_votesFor_3 := dk_seg dksX0_votesFor_2 24 rfl rfl
theorem dX0_votesFor_0 : decode cX0_votesFor 0 = .ok (.iconst 0, 1) := dk_3 (dk_at dksX0_votesFor_0 0 rfl rfl)
theorem dX0_votesFor_1 : decode cX0_votesFor 1 = .ok (.istore 5, 2) := dk_54 5 (dk_at dksX0_votesFor_0 1 rfl rfl)
theorem dX0_votesFor_3 : decode cX0_votesFor 3 = .ok (.iconst 0, 1) := dk_3 (dk_at dksX0_votesFor_0 3 rfl rfl)
theorem dX0_votesFor_4 : decode cX0_votesFor 4 = .ok (.istore 6, 2) := dk_54 6 (dk_at dksX0_votesFor_0 4 rfl rfl)
theorem dX0_votesFor_6 : decode cX0_votesFor 6 = .ok (.iload 6, 2) := dk_21 6 (dk_at dksX0_votesFor_0 6 rfl rfl)
theorem dX0_votesFor_8 : decode cX0_votesFor 8 = .ok (.aload_n 0, 1) := dk_42 (dk_at dksX0_votesFor_0 8 rfl rfl)
theorem dX0_votesFor_9 : decode cX0_votesFor 9 = .ok (.getfield 33, 3) := dk_180 0 33 (dk_at dksX0_votesFor_0 9 rfl rfl)
theorem dX0_votesFor_12 : decode cX0_votesFor 12 = .ok (.invokevirtual 102, 3) := dk_182 0 102 (dk_at dksX0_votesFor_0 12 rfl rfl)
theorem dX0_votesFor_15 : decode cX0_votesFor 15 = .ok (.if_icmp .ge 56, 3) := dk_162 0 56 (dk_at dksX0_votesFor_0 15 rfl rfl)
theorem dX0_votesFor_18 : decode cX0_votesFor 18 = .ok (.iload 5, 2) := dk_21 5 (dk_at dksX0_votesFor_0 18 rfl rfl)
theorem dX0_votesFor_20 : decode cX0_votesFor 20 = .ok (.aload_n 0, 1) := dk_42 (dk_at dksX0_votesFor_0 20 rfl rfl)
theorem dX0_votesFor_21 : decode cX0_votesFor 21 = .ok (.getfield 33, 3) := dk_180 0 33 (dk_at dksX0_votesFor_0 21 rfl rfl)
theorem dX0_votesFor_24 : decode cX0_votesFor 24 = .ok (.iload 6, 2) := dk_21 6 (dk_at dksX0_votesFor_1 0 rfl rfl)
theorem dX0_votesFor_26 : decode cX0_votesFor 26 = .ok (.invokevirtual 106, 3) := dk_182 0 106 (dk_at dksX0_votesFor_1 2 rfl rfl)
theorem dX0_votesFor_29 : decode cX0_votesFor 29 = .ok (.checkcast 110, 3) := dk_192 0 110 (dk_at dksX0_votesFor_1 5 rfl rfl)
theorem dX0_votesFor_32 : decode cX0_votesFor 32 = .ok (.iload_n 1, 1) := dk_27 (dk_at dksX0_votesFor_1 8 rfl rfl)
theorem dX0_votesFor_33 : decode cX0_votesFor 33 = .ok (.iload_n 2, 1) := dk_28 (dk_at dksX0_votesFor_1 9 rfl rfl)
theorem dX0_votesFor_34 : decode cX0_votesFor 34 = .ok (.iload_n 3, 1) := dk_29 (dk_at dksX0_votesFor_1 10 rfl rfl)
theorem dX0_votesFor_35 : decode cX0_votesFor 35 = .ok (.iload 4, 2) := dk_21 4 (dk_at dksX0_votesFor_1 11 rfl rfl)
theorem dX0_votesFor_37 : decode cX0_votesFor 37 = .ok (.invokevirtual 192, 3) := dk_182 0 192 (dk_at dksX0_votesFor_1 13 rfl rfl)
theorem dX0_votesFor_40 : decode cX0_votesFor 40 = .ok (.ifCond .le 21, 3) := dk_158 0 21 (dk_at dksX0_votesFor_1 16 rfl rfl)
theorem dX0_votesFor_43 : decode cX0_votesFor 43 = .ok (.aload_n 0, 1) := dk_42 (dk_at dksX0_votesFor_1 19 rfl rfl)
theorem dX0_votesFor_44 : decode cX0_votesFor 44 = .ok (.getfield 33, 3) := dk_180 0 33 (dk_at dksX0_votesFor_1 20 rfl rfl)
theorem dX0_votesFor_47 : decode cX0_votesFor 47 = .ok (.iload 6, 2) := dk_21 6 (dk_at dksX0_votesFor_2 0 rfl rfl)
theorem dX0_votesFor_49 : decode cX0_votesFor 49 = .ok (.invokevirtual 106, 3) := dk_182 0 106 (dk_at dksX0_votesFor_2 2 rfl rfl)
theorem dX0_votesFor_52 : decode cX0_votesFor 52 = .ok (.checkcast 110, 3) := dk_192 0 110 (dk_at dksX0_votesFor_2 5 rfl rfl)
theorem dX0_votesFor_55 : decode cX0_votesFor 55 = .ok (.getfield 144, 3) := dk_180 0 144 (dk_at dksX0_votesFor_2 8 rfl rfl)
theorem dX0_votesFor_58 : decode cX0_votesFor 58 = .ok (.goto 4, 3) := dk_167 0 4 (dk_at dksX0_votesFor_2 11 rfl rfl)
theorem dX0_votesFor_61 : decode cX0_votesFor 61 = .ok (.iconst 0, 1) := dk_3 (dk_at dksX0_votesFor_2 14 rfl rfl)
theorem dX0_votesFor_62 : decode cX0_votesFor 62 = .ok (.iadd, 1) := dk_96 (dk_at dksX0_votesFor_2 15 rfl rfl)
theorem dX0_votesFor_63 : decode cX0_votesFor 63 = .ok (.istore 5, 2) := dk_54 5 (dk_at dksX0_votesFor_2 16 rfl rfl)
theorem dX0_votesFor_65 : decode cX0_votesFor 65 = .ok (.iinc 6 1, 3) := dk_132 6 1 (dk_at dksX0_votesFor_2 18 rfl rfl)
theorem dX0_votesFor_68 : decode cX0_votesFor 68 = .ok (.goto (-62), 3) := dk_167 255 194 (dk_at dksX0_votesFor_2 21 rfl rfl)
theorem dX0_votesFor_71 : decode cX0_votesFor 71 = .ok (.iload 5, 2) := dk_21 5 (dk_at dksX0_votesFor_3 0 rfl rfl)
theorem dX0_votesFor_73 : decode cX0_votesFor 73 = .ok (.ireturn, 1) := dk_172 (dk_at dksX0_votesFor_3 2 rfl rfl)
def dkwX0_beats_1 : List UInt8 := [25, 4, 182, 0, 210, 153, 0, 7, 4, 167, 0, 4, 3, 172]
abbrev dktX0_beats_1 : List UInt8 := dkwX0_beats_1 ++ []
def dkwX0_beats_0 : List UInt8 := [42, 27, 182, 0, 171, 78, 42, 28, 182, 0, 171, 58, 4, 45, 198, 0, 22, 25, 4, 198, 0, 17, 42, 45]
abbrev dktX0_beats_0 : List UInt8 := dkwX0_beats_0 ++ dktX0_beats_1
theorem dksX0_beats_0 : cX0_beats.data.toList.drop 0 = dktX0_beats_0 := by decide +kernel
theorem dksX0_beats_1 : cX0_beats.data.toList.drop 24 = dktX0_beats_1 := dk_seg dksX0_beats_0 24 rfl rfl
theorem dX0_beats_0 : decode cX0_beats 0 = .ok (.aload_n 0, 1) := dk_42 (dk_at dksX0_beats_0 0 rfl rfl)
theorem dX0_beats_1 : decode cX0_beats 1 = .ok (.iload_n 1, 1) := dk_27 (dk_at dksX0_beats_0 1 rfl rfl)
theorem dX0_beats_2 : decode cX0_beats 2 = .ok (.invokevirtual 171, 3) := dk_182 0 171 (dk_at dksX0_beats_0 2 rfl rfl)
theorem dX0_beats_5 : decode cX0_beats 5 = .ok (.astore_n 3, 1) := dk_78 (dk_at dksX0_beats_0 5 rfl rfl)
theorem dX0_beats_6 : decode cX0_beats 6 = .ok (.aload_n 0, 1) := dk_42 (dk_at dksX0_beats_0 6 rfl rfl)
theorem dX0_beats_7 : decode cX0_beats 7 = .ok (.iload_n 2, 1) := dk_28 (dk_at dksX0_beats_0 7 rfl rfl)
theorem dX0_beats_8 : decode cX0_beats 8 = .ok (.invokevirtual 171, 3) := dk_182 0 171 (dk_at dksX0_beats_0 8 rfl rfl)
theorem dX0_beats_11 : decode cX0_beats 11 = .ok (.astore 4, 2) := dk_58 4 (dk_at dksX0_beats_0 11 rfl rfl)
theorem dX0_beats_13 : decode cX0_beats 13 = .ok (.aload_n 3, 1) := dk_45 (dk_at dksX0_beats_0 13 rfl rfl)
theorem dX0_beats_14 : decode cX0_beats 14 = .ok (.ifnull 22, 3) := dk_198 0 22 (dk_at dksX0_beats_0 14 rfl rfl)
theorem dX0_beats_17 : decode cX0_beats 17 = .ok (.aload 4, 2) := dk_25 4 (dk_at dksX0_beats_0 17 rfl rfl)
theorem dX0_beats_19 : decode cX0_beats 19 = .ok (.ifnull 17, 3) := dk_198 0 17 (dk_at dksX0_beats_0 19 rfl rfl)
theorem dX0_beats_22 : decode cX0_beats 22 = .ok (.aload_n 0, 1) := dk_42 (dk_at dksX0_beats_0 22 rfl rfl)
theorem dX0_beats_23 : decode cX0_beats 23 = .ok (.aload_n 3, 1) := dk_45 (dk_at dksX0_beats_0 23 rfl rfl)
theorem dX0_beats_24 : decode cX0_beats 24 = .ok (.aload 4, 2) := dk_25 4 (dk_at dksX0_beats_1 0 rfl rfl)
theorem dX0_beats_26 : decode cX0_beats 26 = .ok (.invokevirtual 210, 3) := dk_182 0 210 (dk_at dksX0_beats_1 2 rfl rfl)
theorem dX0_beats_29 : decode cX0_beats 29 = .ok (.ifCond .eq 7, 3) := dk_153 0 7 (dk_at dksX0_beats_1 5 rfl rfl)
theorem dX0_beats_32 : decode cX0_beats 32 = .ok (.iconst 1, 1) := dk_4 (dk_at dksX0_beats_1 8 rfl rfl)
theorem dX0_beats_33 : decode cX0_beats 33 = .ok (.goto 4, 3) := dk_167 0 4 (dk_at dksX0_beats_1 9 rfl rfl)
theorem dX0_beats_36 : decode cX0_beats 36 = .ok (.iconst 0, 1) := dk_3 (dk_at dksX0_beats_1 12 rfl rfl)
theorem dX0_beats_37 : decode cX0_beats 37 = .ok (.ireturn, 1) := dk_172 (dk_at dksX0_beats_1 13 rfl rfl)
def dkwX0_above_0 : List UInt8 := [42, 44, 180, 0, 175, 44, 180, 0, 176, 43, 180, 0, 175, 43, 180, 0, 176, 182, 0, 202, 172]
abbrev dktX0_above_0 : List UInt8 := dkwX0_above_0 ++ []
theorem dksX0_above_0 : cX0_above.data.toList.drop 0 = dktX0_above_0 := by decide +kernel
theorem dX0_above_0 : decode cX0_above 0 = .ok (.aload_n 0, 1) := dk_42 (dk_at dksX0_above_0 0 rfl rfl)
theorem dX0_above_1 : decode cX0_above 1 = .ok (.aload_n 2, 1) := dk_44 (dk_at dksX0_above_0 1 rfl rfl)
theorem dX0_above_2 : decode cX0_above 2 = .ok (.getfield 175, 3) := dk_180 0 175 (dk_at dksX0_above_0 2 rfl rfl)
theorem dX0_above_5 : decode cX0_above 5 = .ok (.aload_n 2, 1) := dk_44 (dk_at dksX0_above_0 5 rfl rfl)
theorem dX0_above_6 : decode cX0_above 6 = .ok (.getfield 176, 3) := dk_180 0 176 (dk_at dksX0_above_0 6 rfl rfl)
theorem dX0_above_9 : decode cX0_above 9 = .ok (.aload_n 1, 1) := dk_43 (dk_at dksX0_above_0 9 rfl rfl)
theorem dX0_above_10 : decode cX0_above 10 = .ok (.getfield 175, 3) := dk_180 0 175 (dk_at dksX0_above_0 10 rfl rfl)
theorem dX0_above_13 : decode cX0_above 13 = .ok (.aload_n 1, 1) := dk_43 (dk_at dksX0_above_0 13 rfl rfl)
theorem dX0_above_14 : decode cX0_above 14 = .ok (.getfield 176, 3) := dk_180 0 176 (dk_at dksX0_above_0 14 rfl rfl)
theorem dX0_above_17 : decode cX0_above 17 = .ok (.invokevirtual 202, 3) := dk_182 0 202 (dk_at dksX0_above_0 17 rfl rfl)
theorem dX0_above_20 : decode cX0_above 20 = .ok (.ireturn, 1) := dk_172 (dk_at dksX0_above_0 20 rfl rfl)
def dkwX0_isBeaten_1 : List UInt8 := [180, 0, 136, 182, 0, 199, 172]
abbrev dktX0_isBeaten_1 : List UInt8 := dkwX0_isBeaten_1 ++ []
def dkwX0_isBeaten_0 : List UInt8 := [42, 180, 0, 48, 42, 29, 21, 4, 27, 28, 182, 0, 196, 42, 27, 28, 29, 21, 4, 182, 0, 196, 42]
abbrev dktX0_isBeaten_0 : List UInt8 := dkwX0_isBeaten_0 ++ dktX0_isBeaten_1
theorem dksX0_isBeaten_0 : cX0_isBeaten.data.toList.drop 0 = dktX0_isBeaten_0 := by decide +kernel
theorem dksX0_isBeaten_1 : cX0_isBeaten.data.toList.drop 23 = dktX0_isBeaten_1 := dk_seg dksX0_isBeaten_0 23 rfl rfl
theorem dX0_isBeaten_0 : decode cX0_isBeaten 0 = .ok (.aload_n 0, 1) := dk_42 (dk_at dksX0_isBeaten_0 0 rfl rfl)
theorem dX0_isBeaten_1 : decode cX0_isBeaten 1 = .ok (.getfield 48, 3) := dk_180 0 48 (dk_at dksX0_isBeaten_0 1 rfl rfl)
theorem dX0_isBeaten_4 : decode cX0_isBeaten 4 = .ok (.aload_n 0, 1) := dk_42 (dk_at dksX0_isBeaten_0 4 rfl rfl)
theorem dX0_isBeaten_5 : decode cX0_isBeaten 5 = .ok (.iload_n 3, 1) := dk_29 (dk_at dksX0_isBeaten_0 5 rfl rfl)
theorem dX0_isBeaten_6 : decode cX0_isBeaten 6 = .ok (.iload 4, 2) := dk_21 4 (dk_at dksX0_isBeaten_0 6 rfl rfl)
theorem dX0_isBeaten_8 : decode cX0_isBeaten 8 = .ok (.iload_n 1, 1) := dk_27 (dk_at dksX0_isBeaten_0 8 rfl rfl)
theorem dX0_isBeaten_9 : decode cX0_isBeaten 9 = .ok (.iload_n 2, 1) := dk_28 (dk_at dksX0_isBeaten_0 9 rfl rfl)
theorem dX0_isBeaten_10 : decode cX0_isBeaten 10 = .ok (.invokevirtual 196, 3) := dk_182 0 196 (dk_at dksX0_isBeaten_0 10 rfl rfl)
theorem dX0_isBeaten_13 : decode cX0_isBeaten 13 = .ok (.aload_n 0, 1) := dk_42 (dk_at dksX0_isBeaten_0 13 rfl rfl)
theorem dX0_isBeaten_14 : decode cX0_isBeaten 14 = .ok (.iload_n 1, 1) := dk_27 (dk_at dksX0_isBeaten_0 14 rfl rfl)
theorem dX0_isBeaten_15 : decode cX0_isBeaten 15 = .ok (.iload_n 2, 1) := dk_28 (dk_at dksX0_isBeaten_0 15 rfl rfl)
theorem dX0_isBeaten_16 : decode cX0_isBeaten 16 = .ok (.iload_n 3, 1) := dk_29 (dk_at dksX0_isBeaten_0 16 rfl rfl)
theorem dX0_isBeaten_17 : decode cX0_isBeaten 17 = .ok (.iload 4, 2) := dk_21 4 (dk_at dksX0_isBeaten_0 17 rfl rfl)
theorem dX0_isBeaten_19 : decode cX0_isBeaten 19 = .ok (.invokevirtual 196, 3) := dk_182 0 196 (dk_at dksX0_isBeaten_0 19 rfl rfl)
theorem dX0_isBeaten_22 : decode cX0_isBeaten 22 = .ok (.aload_n 0, 1) := dk_42 (dk_at dksX0_isBeaten_0 22 rfl rfl)
theorem dX0_isBeaten_23 : decode cX0_isBeaten 23 = .ok (.getfield 136, 3) := dk_180 0 136 (dk_at dksX0_isBeaten_1 0 rfl rfl)
theorem dX0_isBeaten_26 : decode cX0_isBeaten 26 = .ok (.invokevirtual 199, 3) := dk_182 0 199 (dk_at dksX0_isBeaten_1 3 rfl rfl)
theorem dX0_isBeaten_29 : decode cX0_isBeaten 29 = .ok (.ireturn, 1) := dk_172 (dk_at dksX0_isBeaten_1 6 rfl rfl)
def dkwX0_wins_2 : List UInt8 := [27, 16, 100, 112, 182, 0, 202, 172]
abbrev dktX0_wins_2 : List UInt8 := dkwX0_wins_2 ++ []
def dkwX0_wins_1 : List UInt8 := [17, 39, 15, 184, 0, 3, 154, 0, 5, 3, 172, 42, 28, 16, 100, 108, 28, 16, 100, 112, 27, 16, 100, 108]
abbrev dktX0_wins_1 : List UInt8 := dkwX0_wins_1 ++ dktX0_wins_2
def dkwX0_wins_0 : List UInt8 := [42, 180, 0, 33, 182, 0, 177, 154, 0, 25, 27, 3, 17, 39, 15, 184, 0, 3, 153, 0, 14, 28, 3]
abbrev dktX0_wins_0 : List UInt8 := dkwX0_wins_0 ++ dktX0_wins_1
theorem dksX0_wins_0 : cX0_wins.data.toList.drop 0 = dktX0_wins_0 := by decide +kernel
theorem dksX0_wins_1 : cX0_wins.data.toList.drop 23 = dktX0_wins_1 := dk_seg dksX0_wins_0 23 rfl rfl
theorem dksX0_wins_2 : cX0_wins.data.toList.drop 47 = dktX0_wins_2 := dk_seg dksX0_wins_1 24 rfl rfl
theorem dX0_wins_0 : decode cX0_wins 0 = .ok (.aload_n 0, 1) := dk_42 (dk_at dksX0_wins_0 0 rfl rfl)
theorem dX0_wins_1 : decode cX0_wins 1 = .ok (.getfield 33, 3) := dk_180 0 33 (dk_at dksX0_wins_0 1 rfl rfl)
theorem dX0_wins_4 : decode cX0_wins 4 = .ok (.invokevirtual 177, 3) := dk_182 0 177 (dk_at dksX0_wins_0 4 rfl rfl)
theorem dX0_wins_7 : decode cX0_wins 7 = .ok (.ifCond .ne 25, 3) := dk_154 0 25 (dk_at dksX0_wins_0 7 rfl rfl)
theorem dX0_wins_10 : decode cX0_wins 10 = .ok (.iload_n 1, 1) := dk_27 (dk_at dksX0_wins_0 10 rfl rfl)
theorem dX0_wins_11 : decode cX0_wins 11 = .ok (.iconst 0, 1) := dk_3 (dk_at dksX0_wins_0 11 rfl rfl)
theorem dX0_wins_12 : decode cX0_wins 12 = .ok (.sipush 9999, 3) := dk_17 39 15 (dk_at dksX0_wins_0 12 rfl rfl)
theorem dX0_wins_15 : decode cX0_wins 15 = .ok (.invokestatic 3, 3) := dk_184 0 3 (dk_at dksX0_wins_0 15 rfl rfl)
theorem dX0_wins_18 : decode cX0_wins 18 = .ok (.ifCond .eq 14, 3) := dk_153 0 14 (dk_at dksX0_wins_0 18 rfl rfl)
theorem dX0_wins_21 : decode cX0_wins 21 = .ok (.iload_n 2, 1) := dk_28 (dk_at dksX0_wins_0 21 rfl rfl)
theorem dX0_wins_22 : decode cX0_wins 22 = .ok (.iconst 0, 1) := dk_3 (dk_at dksX0_wins_0 22 rfl rfl)
theorem dX0_wins_23 : decode cX0_wins 23 = .ok (.sipush 9999, 3) := dk_17 39 15 (dk_at dksX0_wins_1 0 rfl rfl)
theorem dX0_wins_26 : decode cX0_wins 26 = .ok (.invokestatic 3, 3) := dk_184 0 3 (dk_at dksX0_wins_1 3 rfl rfl)
theorem dX0_wins_29 : decode cX0_wins 29 = .ok (.ifCond .ne 5, 3) := dk_154 0 5 (dk_at dksX0_wins_1 6 rfl rfl)
theorem dX0_wins_32 : decode cX0_wins 32 = .ok (.iconst 0, 1) := dk_3 (dk_at dksX0_wins_1 9 rfl rfl)
theorem dX0_wins_33 : decode cX0_wins 33 = .ok (.ireturn, 1) := dk_172 (dk_at dksX0_wins_1 10 rfl rfl)
theorem dX0_wins_34 : decode cX0_wins 34 = .ok (.aload_n 0, 1) := dk_42 (dk_at dksX0_wins_1 11 rfl rfl)
theorem dX0_wins_35 : decode cX0_wins 35 = .ok (.iload_n 2, 1) := dk_28 (dk_at dksX0_wins_1 12 rfl rfl)
theorem dX0_wins_36 : decode cX0_wins 36 = .ok (.bipush 100, 2) := dk_16 100 (dk_at dksX0_wins_1 13 rfl rfl)
theorem dX0_wins_38 : decode cX0_wins 38 = .ok (.idiv, 1) := dk_108 (dk_at dksX0_wins_1 15 rfl rfl)
theorem dX0_wins_39 : decode cX0_wins 39 = .ok (.iload_n 2, 1) := dk_28 (dk_at dksX0_wins_1 16 rfl rfl)
theorem dX0_wins_40 : decode cX0_wins 40 = .ok (.bipush 100, 2) := dk_16 100 (dk_at dksX0_wins_1 17 rfl rfl)
theorem dX0_wins_42 : decode cX0_wins 42 = .ok (.irem, 1) := dk_112 (dk_at dksX0_wins_1 19 rfl rfl)
theorem dX0_wins_43 : decode cX0_wins 43 = .ok (.iload_n 1, 1) := dk_27 (dk_at dksX0_wins_1 20 rfl rfl)
theorem dX0_wins_44 : decode cX0_wins 44 = .ok (.bipush 100, 2) := dk_16 100 (dk_at dksX0_wins_1 21 rfl rfl)
theorem dX0_wins_46 : decode cX0_wins 46 = .ok (.idiv, 1) := dk_108 (dk_at dksX0_wins_1 23 rfl rfl)
theorem dX0_wins_47 : decode cX0_wins 47 = .ok (.iload_n 1, 1) := dk_27 (dk_at dksX0_wins_2 0 rfl rfl)
theorem dX0_wins_48 : decode cX0_wins 48 = .ok (.bipush 100, 2) := dk_16 100 (dk_at dksX0_wins_2 1 rfl rfl)
theorem dX0_wins_50 : decode cX0_wins 50 = .ok (.irem, 1) := dk_112 (dk_at dksX0_wins_2 3 rfl rfl)
theorem dX0_wins_51 : decode cX0_wins 51 = .ok (.invokevirtual 202, 3) := dk_182 0 202 (dk_at dksX0_wins_2 4 rfl rfl)
theorem dX0_wins_54 : decode cX0_wins 54 = .ok (.ireturn, 1) := dk_172 (dk_at dksX0_wins_2 7 rfl rfl)
def dkwX0_line_3 : List UInt8 := [160, 0, 10, 45, 180, 0, 244, 167, 0, 7, 45, 180, 0, 247, 136, 172]
abbrev dktX0_line_3 : List UInt8 := dkwX0_line_3 ++ []
def dkwX0_line_2 : List UInt8 := [180, 0, 52, 27, 182, 0, 106, 192, 0, 215, 78, 28, 154, 0, 10, 45, 180, 0, 240, 167, 0, 19, 28, 4]
abbrev dktX0_line_2 : List UInt8 := dkwX0_line_2 ++ dktX0_line_3
def dkwX0_line_1 : List UInt8 := [182, 0, 102, 4, 100, 184, 0, 3, 153, 0, 12, 28, 3, 5, 184, 0, 3, 154, 0, 6, 18, 239, 172, 42]
abbrev dktX0_line_1 : List UInt8 := dkwX0_line_1 ++ dktX0_line_2
def dkwX0_line_0 : List UInt8 := [42, 182, 0, 236, 27, 2, 160, 0, 11, 42, 180, 0, 52, 182, 0, 102, 172, 27, 3, 42, 180, 0, 52]
abbrev dktX0_line_0 : List UInt8 := dkwX0_line_0 ++ dktX0_line_1
theorem dksX0_line_0 : cX0_line.data.toList.drop 0 = dktX0_line_0 := by decide +kernel
theorem dksX0_line_1 : cX0_line.data.toList.drop 23 = dktX0_line_1 := dk_seg dksX0_line_0 23 rfl rfl
theorem dksX0_line_2 : cX0_line.data.toList.drop 47 = dktX0_line_2 := dk_seg dksX0_line_1 24 rfl rfl
theorem dksX0_line_3 : cX0_line.data.toList.drop 71 = dktX0_line_3 := dk_seg dksX0_line_2 24 rfl rfl
theorem dX0_line_0 : decode cX0_line 0 = .ok (.aload_n 0, 1) := dk_42 (dk_at dksX0_line_0 0 rfl rfl)
theorem dX0_line_1 : decode cX0_line 1 = .ok (.invokevirtual 236, 3) := dk_182 0 236 (dk_at dksX0_line_0 1 rfl rfl)
theorem dX0_line_4 : decode cX0_line 4 = .ok (.iload_n 1, 1) := dk_27 (dk_at dksX0_line_0 4 rfl rfl)
theorem dX0_line_5 : decode cX0_line 5 = .ok (.iconst (-1), 1) := dk_2 (dk_at dksX0_line_0 5 rfl rfl)
theorem dX0_line_6 : decode cX0_line 6 = .ok (.if_icmp .ne 11, 3) := dk_160 0 11 (dk_at dksX0_line_0 6 rfl rfl)
theorem dX0_line_9 : decode cX0_line 9 = .ok (.aload_n 0, 1) := dk_42 (dk_at dksX0_line_0 9 rfl rfl)
theorem dX0_line_10 : decode cX0_line 10 = .ok (.getfield 52, 3) := dk_180 0 52 (dk_at dksX0_line_0 10 rfl rfl)
theorem dX0_line_13 : decode cX0_line 13 = .ok (.invokevirtual 102, 3) := dk_182 0 102 (dk_at dksX0_line_0 13 rfl rfl)
theorem dX0_line_16 : decode cX0_line 16 = .ok (.ireturn, 1) := dk_172 (dk_at dksX0_line_0 16 rfl rfl)
theorem dX0_line_17 : decode cX0_line 17 = .ok (.iload_n 1, 1) := dk_27 (dk_at dksX0_line_0 17 rfl rfl)
theorem dX0_line_18 : decode cX0_line 18 = .ok (.iconst 0, 1) := dk_3 (dk_at dksX0_line_0 18 rfl rfl)
theorem dX0_line_19 : decode cX0_line 19 = .ok (.aload_n 0, 1) := dk_42 (dk_at dksX0_line_0 19 rfl rfl)
theorem dX0_line_20 : decode cX0_line 20 = .ok (.getfield 52, 3) := dk_180 0 52 (dk_at dksX0_line_0 20 rfl rfl)
theorem dX0_line_23 : decode cX0_line 23 = .ok (.invokevirtual 102, 3) := dk_182 0 102 (dk_at dksX0_line_1 0 rfl rfl)
theorem dX0_line_26 : decode cX0_line 26 = .ok (.iconst 1, 1) := dk_4 (dk_at dksX0_line_1 3 rfl rfl)
theorem dX0_line_27 : decode cX0_line 27 = .ok (.isub, 1) := dk_100 (dk_at dksX0_line_1 4 rfl rfl)
theorem dX0_line_28 : decode cX0_line 28 = .ok (.invokestatic 3, 3) := dk_184 0 3 (dk_at dksX0_line_1 5 rfl rfl)
theorem dX0_line_31 : decode cX0_line 31 = .ok (.ifCond .eq 12, 3) := dk_153 0 12 (dk_at dksX0_line_1 8 rfl rfl)
theorem dX0_line_34 : decode cX0_line 34 = .ok (.iload_n 2, 1) := dk_28 (dk_at dksX0_line_1 11 rfl rfl)
theorem dX0_line_35 : decode cX0_line 35 = .ok (.iconst 0, 1) := dk_3 (dk_at dksX0_line_1 12 rfl rfl)
theorem dX0_line_36 : decode cX0_line 36 = .ok (.iconst 2, 1) := dk_5 (dk_at dksX0_line_1 13 rfl rfl)
theorem dX0_line_37 : decode cX0_line 37 = .ok (.invokestatic 3, 3) := dk_184 0 3 (dk_at dksX0_line_1 14 rfl rfl)
theorem dX0_line_40 : decode cX0_line 40 = .ok (.ifCond .ne 6, 3) := dk_154 0 6 (dk_at dksX0_line_1 17 rfl rfl)
theorem dX0_line_43 : decode cX0_line 43 = .ok (.ldc 239, 2) := dk_18 239 (dk_at dksX0_line_1 20 rfl rfl)
theorem dX0_line_45 : decode cX0_line 45 = .ok (.ireturn, 1) := dk_172 (dk_at dksX0_line_1 22 rfl rfl)
theorem dX0_line_46 : decode cX0_line 46 = .ok (.aload_n 0, 1) := dk_42 (dk_at dksX0_line_1 23 rfl rfl)
theorem dX0_line_47 : decode cX0_line 47 = .ok (.getfield 52, 3) := dk_180 0 52 (dk_at dksX0_line_2 0 rfl rfl)
theorem dX0_line_50 : decode cX0_line 50 = .ok (.iload_n 1, 1) := dk_27 (dk_at dksX0_line_2 3 rfl rfl)
theorem dX0_line_51 : decode cX0_line 51 = .ok (.invokevirtual 106, 3) := dk_182 0 106 (dk_at dksX0_line_2 4 rfl rfl)
theorem dX0_line_54 : decode cX0_line 54 = .ok (.checkcast 215, 3) := dk_192 0 215 (dk_at dksX0_line_2 7 rfl rfl)
theorem dX0_line_57 : decode cX0_line 57 = .ok (.astore_n 3, 1) := dk_78 (dk_at dksX0_line_2 10 rfl rfl)
theorem dX0_line_58 : decode cX0_line 58 = .ok (.iload_n 2, 1) := dk_28 (dk_at dksX0_line_2 11 rfl rfl)
theorem dX0_line_59 : decode cX0_line 59 = .ok (.ifCond .ne 10, 3) := dk_154 0 10 (dk_at dksX0_line_2 12 rfl rfl)
theorem dX0_line_62 : decode cX0_line 62 = .ok (.aload_n 3, 1) := dk_45 (dk_at dksX0_line_2 15 rfl rfl)
theorem dX0_line_63 : decode cX0_line 63 = .ok (.getfield 240, 3) := dk_180 0 240 (dk_at dksX0_line_2 16 rfl rfl)
theorem dX0_line_66 : decode cX0_line 66 = .ok (.goto 19, 3) := dk_167 0 19 (dk_at dksX0_line_2 19 rfl rfl)
theorem dX0_line_69 : decode cX0_line 69 = .ok (.iload_n 2, 1) := dk_28 (dk_at dksX0_line_2 22 rfl rfl)
theorem dX0_line_70 : decode cX0_line 70 = .ok (.iconst 1, 1) := dk_4 (dk_at dksX0_line_2 23 rfl rfl)
theorem dX0_line_71 : decode cX0_line 71 = .ok (.if_icmp .ne 10, 3) := dk_160 0 10 (dk_at dksX0_line_3 0 rfl rfl)
theorem dX0_line_74 : decode cX0_line 74 = .ok (.aload_n 3, 1) := dk_45 (dk_at dksX0_line_3 3 rfl rfl)
theorem dX0_line_75 : decode cX0_line 75 = .ok (.getfield 244, 3) := dk_180 0 244 (dk_at dksX0_line_3 4 rfl rfl)
theorem dX0_line_78 : decode cX0_line 78 = .ok (.goto 7, 3) := dk_167 0 7 (dk_at dksX0_line_3 7 rfl rfl)
theorem dX0_line_81 : decode cX0_line 81 = .ok (.aload_n 3, 1) := dk_45 (dk_at dksX0_line_3 10 rfl rfl)
theorem dX0_line_82 : decode cX0_line 82 = .ok (.getfield 247, 3) := dk_180 0 247 (dk_at dksX0_line_3 11 rfl rfl)
theorem dX0_line_85 : decode cX0_line 85 = .ok (.l2i, 1) := dk_136 (dk_at dksX0_line_3 14 rfl rfl)
theorem dX0_line_86 : decode cX0_line 86 = .ok (.ireturn, 1) := dk_172 (dk_at dksX0_line_3 15 rfl rfl)
def dkwX0_findLines_9 : List UInt8 := [182, 0, 233, 132, 2, 1, 167, 255, 73, 132, 1, 1, 167, 255, 54, 177]
abbrev dktX0_findLines_9 : List UInt8 := dkwX0_findLines_9 ++ []
def dkwX0_findLines_8 : List UInt8 := [154, 0, 26, 42, 25, 5, 182, 0, 230, 154, 0, 6, 167, 0, 14, 42, 180, 0, 52, 21, 6, 25, 5]
abbrev dktX0_findLines_8 : List UInt8 := dkwX0_findLines_8 ++ dktX0_findLines_9
def dkwX0_findLines_7 : List UInt8 := [182, 0, 102, 162, 0, 23, 42, 180, 0, 52, 21, 6, 182, 0, 106, 192, 0, 215, 25, 5, 182, 0, 227]
abbrev dktX0_findLines_7 : List UInt8 := dkwX0_findLines_7 ++ dktX0_findLines_8
def dkwX0_findLines_6 : List UInt8 := [192, 0, 215, 25, 5, 182, 0, 223, 153, 0, 9, 132, 6, 1, 167, 255, 221, 21, 6, 42, 180, 0, 52]
abbrev dktX0_findLines_6 : List UInt8 := dkwX0_findLines_6 ++ dktX0_findLines_7
def dkwX0_findLines_5 : List UInt8 := [3, 54, 6, 21, 6, 42, 180, 0, 52, 182, 0, 102, 162, 0, 29, 42, 180, 0, 52, 21, 6, 182, 0, 106]
abbrev dktX0_findLines_5 : List UInt8 := dkwX0_findLines_5 ++ dktX0_findLines_6
def dkwX0_findLines_4 : List UInt8 := [89, 45, 180, 0, 156, 45, 180, 0, 159, 25, 4, 180, 0, 156, 25, 4, 180, 0, 159, 183, 0, 220, 58, 5]
abbrev dktX0_findLines_4 : List UInt8 := dkwX0_findLines_4 ++ dktX0_findLines_5
def dkwX0_findLines_3 : List UInt8 := [180, 0, 156, 160, 0, 18, 45, 180, 0, 159, 25, 4, 180, 0, 159, 160, 0, 6, 167, 0, 126, 187, 0, 215]
abbrev dktX0_findLines_3 : List UInt8 := dkwX0_findLines_3 ++ dktX0_findLines_4
def dkwX0_findLines_2 : List UInt8 := [192, 0, 110, 78, 42, 180, 0, 33, 28, 182, 0, 106, 192, 0, 110, 58, 4, 45, 180, 0, 156, 25, 4]
abbrev dktX0_findLines_2 : List UInt8 := dkwX0_findLines_2 ++ dktX0_findLines_3
def dkwX0_findLines_1 : List UInt8 := [180, 0, 33, 182, 0, 102, 162, 0, 197, 3, 61, 28, 27, 162, 0, 184, 42, 180, 0, 33, 27, 182, 0, 106]
abbrev dktX0_findLines_1 : List UInt8 := dkwX0_findLines_1 ++ dktX0_findLines_2
def dkwX0_findLines_0 : List UInt8 := [42, 180, 0, 92, 153, 0, 4, 177, 42, 4, 181, 0, 92, 42, 180, 0, 52, 182, 0, 133, 3, 60, 27, 42]
abbrev dktX0_findLines_0 : List UInt8 := dkwX0_findLines_0 ++ dktX0_findLines_1
theorem dksX0_findLines_0 : cX0_findLines.data.toList.drop 0 = dktX0_findLines_0 := by decide +kernel
theorem dksX0_findLines_1 : cX0_findLines.data.toList.drop 24 = dktX0_findLines_1 := dk_seg dksX0_findLines_0 24 rfl rfl
theorem dksX0_findLines_2 : cX0_findLines.data.toList.drop 48 = dktX0_findLines_2 := dk_seg dksX0_findLines_1 24 rfl rfl
theorem dksX0_findLines_3 : cX0_findLines.data.toList.drop 71 = dktX0_findLines_3 := dk_seg dksX0_findLines_2 23 rfl rfl
theorem dksX0_findLines_4 : cX0_findLines.data.toList.drop 95 = dktX0_findLines_4 := dk_seg dksX0_findLines_3 24 rfl rfl
theorem dksX0_findLines_5 : cX0_findLines.data.toList.drop 119 = dktX0_findLines_5 := dk_seg dksX0_findLines_4 24 rfl rfl
theorem dksX0_findLines_6 : cX0_findLines.data.toList.drop 143 = dktX0_findLines_6 := dk_seg dksX0_findLines_5 24 rfl rfl
theorem dksX0_findLines_7 : cX0_findLines.data.toList.drop 166 = dktX0_findLines_7 := dk_seg dksX0_findLines_6 23 rfl rfl
theorem dksX0_findLines_8 : cX0_findLines.data.toList.drop 189 = dktX0_findLines_8 := dk_seg dksX0_findLines_7 23 rfl rfl
theorem dksX0_findLines_9 : cX0_findLines.data.toList.drop 212 = dktX0_findLines_9 := dk_seg dksX0_findLines_8 23 rfl rfl
theorem dX0_findLines_0 : decode cX0_findLines 0 = .ok (.aload_n 0, 1) := dk_42 (dk_at dksX0_findLines_0 0 rfl rfl)
theorem dX0_findLines_1 : decode cX0_findLines 1 = .ok (.getfield 92, 3) := dk_180 0 92 (dk_at dksX0_findLines_0 1 rfl rfl)
theorem dX0_findLines_4 : decode cX0_findLines 4 = .ok (.ifCond .eq 4, 3) := dk_153 0 4 (dk_at dksX0_findLines_0 4 rfl rfl)
theorem dX0_findLines_7 : decode cX0_findLines 7 = .ok (.return_, 1) := dk_177 (dk_at dksX0_findLines_0 7 rfl rfl)
theorem dX0_findLines_8 : decode cX0_findLines 8 = .ok (.aload_n 0, 1) := dk_42 (dk_at dksX0_findLines_0 8 rfl rfl)
theorem dX0_findLines_9 : decode cX0_findLines 9 = .ok (.iconst 1, 1) := dk_4 (dk_at dksX0_findLines_0 9 rfl rfl)
theorem dX0_findLines_10 : decode cX0_findLines 10 = .ok (.putfield 92, 3) := dk_181 0 92 (dk_at dksX0_findLines_0 10 rfl rfl)
theorem dX0_findLines_13 : decode cX0_findLines 13 = .ok (.aload_n 0, 1) := dk_42 (dk_at dksX0_findLines_0 13 rfl rfl)
theorem dX0_findLines_14 : decode cX0_findLines 14 = .ok (.getfield 52, 3) := dk_180 0 52 (dk_at dksX0_findLines_0 14 rfl rfl)
theorem dX0_findLines_17 : decode cX0_findLines 17 = .ok (.invokevirtual 133, 3) := dk_182 0 133 (dk_at dksX0_findLines_0 17 rfl rfl)
theorem dX0_findLines_20 : decode cX0_findLines 20 = .ok (.iconst 0, 1) := dk_3 (dk_at dksX0_findLines_0 20 rfl rfl)
theorem dX0_findLines_21 : decode cX0_findLines 21 = .ok (.istore_n 1, 1) := dk_60 (dk_at dksX0_findLines_0 21 rfl rfl)
theorem dX0_findLines_22 : decode cX0_findLines 22 = .ok (.iload_n 1, 1) := dk_27 (dk_at dksX0_findLines_0 22 rfl rfl)
theorem dX0_findLines_23 : decode cX0_findLines 23 = .ok (.aload_n 0, 1) := dk_42 (dk_at dksX0_findLines_0 23 rfl rfl)
theorem dX0_findLines_24 : decode cX0_findLines 24 = .ok (.getfield 33, 3) := dk_180 0 33 (dk_at dksX0_findLines_1 0 rfl rfl)
theorem dX0_findLines_27 : decode cX0_findLines 27 = .ok (.invokevirtual 102, 3) := dk_182 0 102 (dk_at dksX0_findLines_1 3 rfl rfl)
theorem dX0_findLines_30 : decode cX0_findLines 30 = .ok (.if_icmp .ge 197, 3) := dk_162 0 197 (dk_at dksX0_findLines_1 6 rfl rfl)
theorem dX0_findLines_33 : decode cX0_findLines 33 = .ok (.iconst 0, 1) := dk_3 (dk_at dksX0_findLines_1 9 rfl rfl)
theorem dX0_findLines_34 : decode cX0_findLines 34 = .ok (.istore_n 2, 1) := dk_61 (dk_at dksX0_findLines_1 10 rfl rfl)
theorem dX0_findLines_35 : decode cX0_findLines 35 = .ok (.iload_n 2, 1) := dk_28 (dk_at dksX0_findLines_1 11 rfl rfl)
theorem dX0_findLines_36 : decode cX0_findLines 36 = .ok (.iload_n 1, 1) := dk_27 (dk_at dksX0_findLines_1 12 rfl rfl)
theorem dX0_findLines_37 : decode cX0_findLines 37 = .ok (.if_icmp .ge 184, 3) := dk_162 0 184 (dk_at dksX0_findLines_1 13 rfl rfl)
theorem dX0_findLines_40 : decode cX0_findLines 40 = .ok (.aload_n 0, 1) := dk_42 (dk_at dksX0_findLines_1 16 rfl rfl)
theorem dX0_findLines_41 : decode cX0_findLines 41 = .ok (.getfield 33, 3) := dk_180 0 33 (dk_at dksX0_findLines_1 17 rfl rfl)
theorem dX0_findLines_44 : decode cX0_findLines 44 = .ok (.iload_n 1, 1) := dk_27 (dk_at dksX0_findLines_1 20 rfl rfl)
theorem dX0_findLines_45 : decode cX0_findLines 45 = .ok (.invokevirtual 106, 3) := dk_182 0 106 (dk_at dksX0_findLines_1 21 rfl rfl)
theorem dX0_findLines_48 : decode cX0_findLines 48 = .ok (.checkcast 110, 3) := dk_192 0 110 (dk_at dksX0_findLines_2 0 rfl rfl)
theorem dX0_findLines_51 : decode cX0_findLines 51 = .ok (.astore_n 3, 1) := dk_78 (dk_at dksX0_findLines_2 3 rfl rfl)
theorem dX0_findLines_52 : decode cX0_findLines 52 = .ok (.aload_n 0, 1) := dk_42 (dk_at dksX0_findLines_2 4 rfl rfl)
theorem dX0_findLines_53 : decode cX0_findLines 53 = .ok (.getfield 33, 3) := dk_180 0 33 (dk_at dksX0_findLines_2 5 rfl rfl)
theorem dX0_findLines_56 : decode cX0_findLines 56 = .ok (.iload_n 2, 1) := dk_28 (dk_at dksX0_findLines_2 8 rfl rfl)
theorem dX0_findLines_57 : decode cX0_findLines 57 = .ok (.invokevirtual 106, 3) := dk_182 0 106 (dk_at dksX0_findLines_2 9 rfl rfl)
theorem dX0_findLines_60 : decode cX0_findLines 60 = .ok (.checkcast 110, 3) := dk_192 0 110 (dk_at dksX0_findLines_2 12 rfl rfl)
theorem dX0_findLines_63 : decode cX0_findLines 63 = .ok (.astore 4, 2) := dk_58 4 (dk_at dksX0_findLines_2 15 rfl rfl)
theorem dX0_findLines_65 : decode cX0_findLines 65 = .ok (.aload_n 3, 1) := dk_45 (dk_at dksX0_findLines_2 17 rfl rfl)
theorem dX0_findLines_66 : decode cX0_findLines 66 = .ok (.getfield 156, 3) := dk_180 0 156 (dk_at dksX0_findLines_2 18 rfl rfl)
theorem dX0_findLines_69 : decode cX0_findLines 69 = .ok (.aload 4, 2) := dk_25 4 (dk_at dksX0_findLines_2 21 rfl rfl)
theorem dX0_findLines_71 : decode cX0_findLines 71 = .ok (.getfield 156, 3) := dk_180 0 156 (dk_at dksX0_findLines_3 0 rfl rfl)
theorem dX0_findLines_74 : decode cX0_findLines 74 = .ok (.if_icmp .ne 18, 3) := dk_160 0 18 (dk_at dksX0_findLines_3 3 rfl rfl)
theorem dX0_findLines_77 : decode cX0_findLines 77 = .ok (.aload_n 3, 1) := dk_45 (dk_at dksX0_findLines_3 6 rfl rfl)
theorem dX0_findLines_78 : decode cX0_findLines 78 = .ok (.getfield 159, 3) := dk_180 0 159 (dk_at dksX0_findLines_3 7 rfl rfl)
theorem dX0_findLines_81 : decode cX0_findLines 81 = .ok (.aload 4, 2) := dk_25 4 (dk_at dksX0_findLines_3 10 rfl rfl)
theorem dX0_findLines_83 : decode cX0_findLines 83 = .ok (.getfield 159, 3) := dk_180 0 159 (dk_at dksX0_findLines_3 12 rfl rfl)
theorem dX0_findLines_86 : decode cX0_findLines 86 = .ok (.if_icmp .ne 6, 3) := dk_160 0 6 (dk_at dksX0_findLines_3 15 rfl rfl)
theorem dX0_findLines_89 : decode cX0_findLines 89 = .ok (.goto 126, 3) := dk_167 0 126 (dk_at dksX0_findLines_3 18 rfl rfl)
theorem dX0_findLines_92 : decode cX0_findLines 92 = .ok (.new 215, 3) := dk_187 0 215 (dk_at dksX0_findLines_3 21 rfl rfl)
theorem dX0_findLines_95 : decode cX0_findLines 95 = .ok (.dup, 1) := dk_89 (dk_at dksX0_findLines_4 0 rfl rfl)
theorem dX0_findLines_96 : decode cX0_findLines 96 = .ok (.aload_n 3, 1) := dk_45 (dk_at dksX0_findLines_4 1 rfl rfl)
theorem dX0_findLines_97 : decode cX0_findLines 97 = .ok (.getfield 156, 3) := dk_180 0 156 (dk_at dksX0_findLines_4 2 rfl rfl)
theorem dX0_findLines_100 : decode cX0_findLines 100 = .ok (.aload_n 3, 1) := dk_45 (dk_at dksX0_findLines_4 5 rfl rfl)
theorem dX0_findLines_101 : decode cX0_findLines 101 = .ok (.getfield 159, 3) := dk_180 0 159 (dk_at dksX0_findLines_4 6 rfl rfl)
theorem dX0_findLines_104 : decode cX0_findLines 104 = .ok (.aload 4, 2) := dk_25 4 (dk_at dksX0_findLines_4 9 rfl rfl)
theorem dX0_findLines_106 : decode cX0_findLines 106 = .ok (.getfield 156, 3) := dk_180 0 156 (dk_at dksX0_findLines_4 11 rfl rfl)
theorem dX0_findLines_109 : decode cX0_findLines 109 = .ok (.aload 4, 2) := dk_25 4 (dk_at dksX0_findLines_4 14 rfl rfl)
theorem dX0_findLines_111 : decode cX0_findLines 111 = .ok (.getfield 159, 3) := dk_180 0 159 (dk_at dksX0_findLines_4 16 rfl rfl)
theorem dX0_findLines_114 : decode cX0_findLines 114 = .ok (.invokespecial 220, 3) := dk_183 0 220 (dk_at dksX0_findLines_4 19 rfl rfl)
theorem dX0_findLines_117 : decode cX0_findLines 117 = .ok (.astore 5, 2) := dk_58 5 (dk_at dksX0_findLines_4 22 rfl rfl)
theorem dX0_findLines_119 : decode cX0_findLines 119 = .ok (.iconst 0, 1) := dk_3 (dk_at dksX0_findLines_5 0 rfl rfl)
theorem dX0_findLines_120 : decode cX0_findLines 120 = .ok (.istore 6, 2) := dk_54 6 (dk_at dksX0_findLines_5 1 rfl rfl)
theorem dX0_findLines_122 : decode cX0_findLines 122 = .ok (.iload 6, 2) := dk_21 6 (dk_at dksX0_findLines_5 3 rfl rfl)
theorem dX0_findLines_124 : decode cX0_findLines 124 = .ok (.aload_n 0, 1) := dk_42 (dk_at dksX0_findLines_5 5 rfl rfl)
theorem dX0_findLines_125 : decode cX0_findLines 125 = .ok (.getfield 52, 3) := dk_180 0 52 (dk_at dksX0_findLines_5 6 rfl rfl)
theorem dX0_findLines_128 : decode cX0_findLines 128 = .ok (.invokevirtual 102, 3) := dk_182 0 102 (dk_at dksX0_findLines_5 9 rfl rfl)
theorem dX0_findLines_131 : decode cX0_findLines 131 = .ok (.if_icmp .ge 29, 3) := dk_162 0 29 (dk_at dksX0_findLines_5 12 rfl rfl)
theorem dX0_findLines_134 : decode cX0_findLines 134 = .ok (.aload_n 0, 1) := dk_42 (dk_at dksX0_findLines_5 15 rfl rfl)
theorem dX0_findLines_135 : decode cX0_findLines 135 = .ok (.getfield 52, 3) := dk_180 0 52 (dk_at dksX0_findLines_5 16 rfl rfl)
theorem dX0_findLines_138 : decode cX0_findLines 138 = .ok (.iload 6, 2) := dk_21 6 (dk_at dksX0_findLines_5 19 rfl rfl)
theorem dX0_findLines_140 : decode cX0_findLines 140 = .ok (.invokevirtual 106, 3) := dk_182 0 106 (dk_at dksX0_findLines_5 21 rfl rfl)
theorem dX0_findLines_143 : decode cX0_findLines 143 = .ok (.checkcast 215, 3) := dk_192 0 215 (dk_at dksX0_findLines_6 0 rfl rfl)
theorem dX0_findLines_146 : decode cX0_findLines 146 = .ok (.aload 5, 2) := dk_25 5 (dk_at dksX0_findLines_6 3 rfl rfl)
theorem dX0_findLines_148 : decode cX0_findLines 148 = .ok (.invokevirtual 223, 3) := dk_182 0 223 (dk_at dksX0_findLines_6 5 rfl rfl)
theorem dX0_findLines_151 : decode cX0_findLines 151 = .ok (.ifCond .eq 9, 3) := dk_153 0 9 (dk_at dksX0_findLines_6 8 rfl rfl)
theorem dX0_findLines_154 : decode cX0_findLines 154 = .ok (.iinc 6 1, 3) := dk_132 6 1 (dk_at dksX0_findLines_6 11 rfl rfl)
theorem dX0_findLines_157 : decode cX0_findLines 157 = .ok (.goto (-35), 3) := dk_167 255 221 (dk_at dksX0_findLines_6 14 rfl rfl)
theorem dX0_findLines_160 : decode cX0_findLines 160 = .ok (.iload 6, 2) := dk_21 6 (dk_at dksX0_findLines_6 17 rfl rfl)
theorem dX0_findLines_162 : decode cX0_findLines 162 = .ok (.aload_n 0, 1) := dk_42 (dk_at dksX0_findLines_6 19 rfl rfl)
theorem dX0_findLines_163 : decode cX0_findLines 163 = .ok (.getfield 52, 3) := dk_180 0 52 (dk_at dksX0_findLines_6 20 rfl rfl)
theorem dX0_findLines_166 : decode cX0_findLines 166 = .ok (.invokevirtual 102, 3) := dk_182 0 102 (dk_at dksX0_findLines_7 0 rfl rfl)
theorem dX0_findLines_169 : decode cX0_findLines 169 = .ok (.if_icmp .ge 23, 3) := dk_162 0 23 (dk_at dksX0_findLines_7 3 rfl rfl)
theorem dX0_findLines_172 : decode cX0_findLines 172 = .ok (.aload_n 0, 1) := dk_42 (dk_at dksX0_findLines_7 6 rfl rfl)
theorem dX0_findLines_173 : decode cX0_findLines 173 = .ok (.getfield 52, 3) := dk_180 0 52 (dk_at dksX0_findLines_7 7 rfl rfl)
theorem dX0_findLines_176 : decode cX0_findLines 176 = .ok (.iload 6, 2) := dk_21 6 (dk_at dksX0_findLines_7 10 rfl rfl)
theorem dX0_findLines_178 : decode cX0_findLines 178 = .ok (.invokevirtual 106, 3) := dk_182 0 106 (dk_at dksX0_findLines_7 12 rfl rfl)
theorem dX0_findLines_181 : decode cX0_findLines 181 = .ok (.checkcast 215, 3) := dk_192 0 215 (dk_at dksX0_findLines_7 15 rfl rfl)
theorem dX0_findLines_184 : decode cX0_findLines 184 = .ok (.aload 5, 2) := dk_25 5 (dk_at dksX0_findLines_7 18 rfl rfl)
theorem dX0_findLines_186 : decode cX0_findLines 186 = .ok (.invokevirtual 227, 3) := dk_182 0 227 (dk_at dksX0_findLines_7 20 rfl rfl)
theorem dX0_findLines_189 : decode cX0_findLines 189 = .ok (.ifCond .ne 26, 3) := dk_154 0 26 (dk_at dksX0_findLines_8 0 rfl rfl)
theorem dX0_findLines_192 : decode cX0_findLines 192 = .ok (.aload_n 0, 1) := dk_42 (dk_at dksX0_findLines_8 3 rfl rfl)
theorem dX0_findLines_193 : decode cX0_findLines 193 = .ok (.aload 5, 2) := dk_25 5 (dk_at dksX0_findLines_8 4 rfl rfl)
theorem dX0_findLines_195 : decode cX0_findLines 195 = .ok (.invokevirtual 230, 3) := dk_182 0 230 (dk_at dksX0_findLines_8 6 rfl rfl)
theorem dX0_findLines_198 : decode cX0_findLines 198 = .ok (.ifCond .ne 6, 3) := dk_154 0 6 (dk_at dksX0_findLines_8 9 rfl rfl)
theorem dX0_findLines_201 : decode cX0_findLines 201 = .ok (.goto 14, 3) := dk_167 0 14 (dk_at dksX0_findLines_8 12 rfl rfl)
theorem dX0_findLines_204 : decode cX0_findLines 204 = .ok (.aload_n 0, 1) := dk_42 (dk_at dksX0_findLines_8 15 rfl rfl)
theorem dX0_findLines_205 : decode cX0_findLines 205 = .ok (.getfield 52, 3) := dk_180 0 52 (dk_at dksX0_findLines_8 16 rfl rfl)
theorem dX0_findLines_208 : decode cX0_findLines 208 = .ok (.iload 6, 2) := dk_21 6 (dk_at dksX0_findLines_8 19 rfl rfl)
theorem dX0_findLines_210 : decode cX0_findLines 210 = .ok (.aload 5, 2) := dk_25 5 (dk_at dksX0_findLines_8 21 rfl rfl)
theorem dX0_findLines_212 : decode cX0_findLines 212 = .ok (.invokevirtual 233, 3) := dk_182 0 233 (dk_at dksX0_findLines_9 0 rfl rfl)
theorem dX0_findLines_215 : decode cX0_findLines 215 = .ok (.iinc 2 1, 3) := dk_132 2 1 (dk_at dksX0_findLines_9 3 rfl rfl)
theorem dX0_findLines_218 : decode cX0_findLines 218 = .ok (.goto (-183), 3) := dk_167 255 73 (dk_at dksX0_findLines_9 6 rfl rfl)
theorem dX0_findLines_221 : decode cX0_findLines 221 = .ok (.iinc 1 1, 3) := dk_132 1 1 (dk_at dksX0_findLines_9 9 rfl rfl)
theorem dX0_findLines_224 : decode cX0_findLines 224 = .ok (.goto (-202), 3) := dk_167 255 54 (dk_at dksX0_findLines_9 12 rfl rfl)
theorem dX0_findLines_227 : decode cX0_findLines 227 = .ok (.return_, 1) := dk_177 (dk_at dksX0_findLines_9 15 rfl rfl)
def dkwX0_common_1 : List UInt8 := [55, 8, 22, 6, 55, 4, 22, 8, 55, 6, 167, 255, 234, 22, 4, 173]
abbrev dktX0_common_1 : List UInt8 := dkwX0_common_1 ++ []
def dkwX0_common_0 : List UInt8 := [30, 184, 0, 7, 55, 4, 32, 184, 0, 7, 55, 6, 22, 6, 9, 148, 153, 0, 21, 22, 4, 22, 6, 113]
abbrev dktX0_common_0 : List UInt8 := dkwX0_common_0 ++ dktX0_common_1
theorem dksX0_common_0 : cX0_common.data.toList.drop 0 = dktX0_common_0 := by decide +kernel
theorem dksX0_common_1 : cX0_common.data.toList.drop 24 = dktX0_common_1 := dk_seg dksX0_common_0 24 rfl rfl
theorem dX0_common_0 : decode cX0_common 0 = .ok (.lload_n 0, 1) := dk_30 (dk_at dksX0_common_0 0 rfl rfl)
theorem dX0_common_1 : decode cX0_common 1 = .ok (.invokestatic 7, 3) := dk_184 0 7 (dk_at dksX0_common_0 1 rfl rfl)
theorem dX0_common_4 : decode cX0_common 4 = .ok (.lstore 4, 2) := dk_55 4 (dk_at dksX0_common_0 4 rfl rfl)
theorem dX0_common_6 : decode cX0_common 6 = .ok (.lload_n 2, 1) := dk_32 (dk_at dksX0_common_0 6 rfl rfl)
theorem dX0_common_7 : decode cX0_common 7 = .ok (.invokestatic 7, 3) := dk_184 0 7 (dk_at dksX0_common_0 7 rfl rfl)
theorem dX0_common_10 : decode cX0_common 10 = .ok (.lstore 6, 2) := dk_55 6 (dk_at dksX0_common_0 10 rfl rfl)
theorem dX0_common_12 : decode cX0_common 12 = .ok (.lload 6, 2) := dk_22 6 (dk_at dksX0_common_0 12 rfl rfl)
theorem dX0_common_14 : decode cX0_common 14 = .ok (.lconst 0, 1) := dk_9 (dk_at dksX0_common_0 14 rfl rfl)
theorem dX0_common_15 : decode cX0_common 15 = .ok (.lcmp, 1) := dk_148 (dk_at dksX0_common_0 15 rfl rfl)
theorem dX0_common_16 : decode cX0_common 16 = .ok (.ifCond .eq 21, 3) := dk_153 0 21 (dk_at dksX0_common_0 16 rfl rfl)
theorem dX0_common_19 : decode cX0_common 19 = .ok (.lload 4, 2) := dk_22 4 (dk_at dksX0_common_0 19 rfl rfl)
theorem dX0_common_21 : decode cX0_common 21 = .ok (.lload 6, 2) := dk_22 6 (dk_at dksX0_common_0 21 rfl rfl)
theorem dX0_common_23 : decode cX0_common 23 = .ok (.lrem, 1) := dk_113 (dk_at dksX0_common_0 23 rfl rfl)
theorem dX0_common_24 : decode cX0_common 24 = .ok (.lstore 8, 2) := dk_55 8 (dk_at dksX0_common_1 0 rfl rfl)
theorem dX0_common_26 : decode cX0_common 26 = .ok (.lload 6, 2) := dk_22 6 (dk_at dksX0_common_1 2 rfl rfl)
theorem dX0_common_28 : decode cX0_common 28 = .ok (.lstore 4, 2) := dk_55 4 (dk_at dksX0_common_1 4 rfl rfl)
theorem dX0_common_30 : decode cX0_common 30 = .ok (.lload 8, 2) := dk_22 8 (dk_at dksX0_common_1 6 rfl rfl)
theorem dX0_common_32 : decode cX0_common 32 = .ok (.lstore 6, 2) := dk_55 6 (dk_at dksX0_common_1 8 rfl rfl)
theorem dX0_common_34 : decode cX0_common 34 = .ok (.goto (-22), 3) := dk_167 255 234 (dk_at dksX0_common_1 10 rfl rfl)
theorem dX0_common_37 : decode cX0_common 37 = .ok (.lload 4, 2) := dk_22 4 (dk_at dksX0_common_1 13 rfl rfl)
theorem dX0_common_39 : decode cX0_common 39 = .ok (.lreturn, 1) := dk_173 (dk_at dksX0_common_1 15 rfl rfl)
def dkwX0_halves_4 : List UInt8 := [104, 42, 180, 0, 136, 163, 0, 17, 5, 29, 104, 42, 180, 0, 136, 163, 0, 7, 4, 167, 0, 4, 3, 172]
abbrev dktX0_halves_4 : List UInt8 := dkwX0_halves_4 ++ []
def dkwX0_halves_3 : List UInt8 := [21, 6, 158, 0, 11, 25, 5, 180, 0, 144, 167, 0, 4, 3, 96, 62, 132, 4, 1, 167, 255, 175, 5, 28]
abbrev dktX0_halves_3 : List UInt8 := dkwX0_halves_3 ++ dktX0_halves_4
def dkwX0_halves_2 : List UInt8 := [182, 0, 214, 54, 6, 28, 21, 6, 156, 0, 11, 25, 5, 180, 0, 144, 167, 0, 4, 3, 96, 61, 29]
abbrev dktX0_halves_2 : List UInt8 := dkwX0_halves_2 ++ dktX0_halves_3
def dkwX0_halves_1 : List UInt8 := [21, 4, 182, 0, 106, 192, 0, 110, 58, 5, 43, 25, 5, 180, 0, 156, 133, 25, 5, 180, 0, 159, 133]
abbrev dktX0_halves_1 : List UInt8 := dkwX0_halves_1 ++ dktX0_halves_2
def dkwX0_halves_0 : List UInt8 := [3, 61, 3, 62, 3, 54, 4, 21, 4, 42, 180, 0, 33, 182, 0, 102, 162, 0, 75, 42, 180, 0, 33]
abbrev dktX0_halves_0 : List UInt8 := dkwX0_halves_0 ++ dktX0_halves_1
theorem dksX0_halves_0 : cX0_halves.data.toList.drop 0 = dktX0_halves_0 := by decide +kernel
theorem dksX0_halves_1 : cX0_halves.data.toList.drop 23 = dktX0_halves_1 := dk_seg dksX0_halves_0 23 rfl rfl
theorem dksX0_halves_2 : cX0_halves.data.toList.drop 46 = dktX0_halves_2 := dk_seg dksX0_halves_1 23 rfl rfl
theorem dksX0_halves_3 : cX0_halves.data.toList.drop 69 = dktX0_halves_3 := dk_seg dksX0_halves_2 23 rfl rfl
theorem dksX0_halves_4 : cX0_halves.data.toList.drop 93 = dktX0_halves_4 := dk_seg dksX0_halves_3 24 rfl rfl
theorem dX0_halves_0 : decode cX0_halves 0 = .ok (.iconst 0, 1) := dk_3 (dk_at dksX0_halves_0 0 rfl rfl)
theorem dX0_halves_1 : decode cX0_halves 1 = .ok (.istore_n 2, 1) := dk_61 (dk_at dksX0_halves_0 1 rfl rfl)
theorem dX0_halves_2 : decode cX0_halves 2 = .ok (.iconst 0, 1) := dk_3 (dk_at dksX0_halves_0 2 rfl rfl)
theorem dX0_halves_3 : decode cX0_halves 3 = .ok (.istore_n 3, 1) := dk_62 (dk_at dksX0_halves_0 3 rfl rfl)
theorem dX0_halves_4 : decode cX0_halves 4 = .ok (.iconst 0, 1) := dk_3 (dk_at dksX0_halves_0 4 rfl rfl)
theorem dX0_halves_5 : decode cX0_halves 5 = .ok (.istore 4, 2) := dk_54 4 (dk_at dksX0_halves_0 5 rfl rfl)
theorem dX0_halves_7 : decode cX0_halves 7 = .ok (.iload 4, 2) := dk_21 4 (dk_at dksX0_halves_0 7 rfl rfl)
theorem dX0_halves_9 : decode cX0_halves 9 = .ok (.aload_n 0, 1) := dk_42 (dk_at dksX0_halves_0 9 rfl rfl)
theorem dX0_halves_10 : decode cX0_halves 10 = .ok (.getfield 33, 3) := dk_180 0 33 (dk_at dksX0_halves_0 10 rfl rfl)
theorem dX0_halves_13 : decode cX0_halves 13 = .ok (.invokevirtual 102, 3) := dk_182 0 102 (dk_at dksX0_halves_0 13 rfl rfl)
theorem dX0_halves_16 : decode cX0_halves 16 = .ok (.if_icmp .ge 75, 3) := dk_162 0 75 (dk_at dksX0_halves_0 16 rfl rfl)
theorem dX0_halves_19 : decode cX0_halves 19 = .ok (.aload_n 0, 1) := dk_42 (dk_at dksX0_halves_0 19 rfl rfl)
theorem dX0_halves_20 : decode cX0_halves 20 = .ok (.getfield 33, 3) := dk_180 0 33 (dk_at dksX0_halves_0 20 rfl rfl)
theorem dX0_halves_23 : decode cX0_halves 23 = .ok (.iload 4, 2) := dk_21 4 (dk_at dksX0_halves_1 0 rfl rfl)
theorem dX0_halves_25 : decode cX0_halves 25 = .ok (.invokevirtual 106, 3) := dk_182 0 106 (dk_at dksX0_halves_1 2 rfl rfl)
theorem dX0_halves_28 : decode cX0_halves 28 = .ok (.checkcast 110, 3) := dk_192 0 110 (dk_at dksX0_halves_1 5 rfl rfl)
theorem dX0_halves_31 : decode cX0_halves 31 = .ok (.astore 5, 2) := dk_58 5 (dk_at dksX0_halves_1 8 rfl rfl)
theorem dX0_halves_33 : decode cX0_halves 33 = .ok (.aload_n 1, 1) := dk_43 (dk_at dksX0_halves_1 10 rfl rfl)
theorem dX0_halves_34 : decode cX0_halves 34 = .ok (.aload 5, 2) := dk_25 5 (dk_at dksX0_halves_1 11 rfl rfl)
theorem dX0_halves_36 : decode cX0_halves 36 = .ok (.getfield 156, 3) := dk_180 0 156 (dk_at dksX0_halves_1 13 rfl rfl)
theorem dX0_halves_39 : decode cX0_halves 39 = .ok (.i2l, 1) := dk_133 (dk_at dksX0_halves_1 16 rfl rfl)
theorem dX0_halves_40 : decode cX0_halves 40 = .ok (.aload 5, 2) := dk_25 5 (dk_at dksX0_halves_1 17 rfl rfl)
theorem dX0_halves_42 : decode cX0_halves 42 = .ok (.getfield 159, 3) := dk_180 0 159 (dk_at dksX0_halves_1 19 rfl rfl)
theorem dX0_halves_45 : decode cX0_halves 45 = .ok (.i2l, 1) := dk_133 (dk_at dksX0_halves_1 22 rfl rfl)
theorem dX0_halves_46 : decode cX0_halves 46 = .ok (.invokevirtual 214, 3) := dk_182 0 214 (dk_at dksX0_halves_2 0 rfl rfl)
theorem dX0_halves_49 : decode cX0_halves 49 = .ok (.istore 6, 2) := dk_54 6 (dk_at dksX0_halves_2 3 rfl rfl)
theorem dX0_halves_51 : decode cX0_halves 51 = .ok (.iload_n 2, 1) := dk_28 (dk_at dksX0_halves_2 5 rfl rfl)
theorem dX0_halves_52 : decode cX0_halves 52 = .ok (.iload 6, 2) := dk_21 6 (dk_at dksX0_halves_2 6 rfl rfl)
theorem dX0_halves_54 : decode cX0_halves 54 = .ok (.ifCond .ge 11, 3) := dk_156 0 11 (dk_at dksX0_halves_2 8 rfl rfl)
theorem dX0_halves_57 : decode cX0_halves 57 = .ok (.aload 5, 2) := dk_25 5 (dk_at dksX0_halves_2 11 rfl rfl)
theorem dX0_halves_59 : decode cX0_halves 59 = .ok (.getfield 144, 3) := dk_180 0 144 (dk_at dksX0_halves_2 13 rfl rfl)
theorem dX0_halves_62 : decode cX0_halves 62 = .ok (.goto 4, 3) := dk_167 0 4 (dk_at dksX0_halves_2 16 rfl rfl)
theorem dX0_halves_65 : decode cX0_halves 65 = .ok (.iconst 0, 1) := dk_3 (dk_at dksX0_halves_2 19 rfl rfl)
theorem dX0_halves_66 : decode cX0_halves 66 = .ok (.iadd, 1) := dk_96 (dk_at dksX0_halves_2 20 rfl rfl)
theorem dX0_halves_67 : decode cX0_halves 67 = .ok (.istore_n 2, 1) := dk_61 (dk_at dksX0_halves_2 21 rfl rfl)
theorem dX0_halves_68 : decode cX0_halves 68 = .ok (.iload_n 3, 1) := dk_29 (dk_at dksX0_halves_2 22 rfl rfl)
theorem dX0_halves_69 : decode cX0_halves 69 = .ok (.iload 6, 2) := dk_21 6 (dk_at dksX0_halves_3 0 rfl rfl)
theorem dX0_halves_71 : decode cX0_halves 71 = .ok (.ifCond .le 11, 3) := dk_158 0 11 (dk_at dksX0_halves_3 2 rfl rfl)
theorem dX0_halves_74 : decode cX0_halves 74 = .ok (.aload 5, 2) := dk_25 5 (dk_at dksX0_halves_3 5 rfl rfl)
theorem dX0_halves_76 : decode cX0_halves 76 = .ok (.getfield 144, 3) := dk_180 0 144 (dk_at dksX0_halves_3 7 rfl rfl)
theorem dX0_halves_79 : decode cX0_halves 79 = .ok (.goto 4, 3) := dk_167 0 4 (dk_at dksX0_halves_3 10 rfl rfl)
theorem dX0_halves_82 : decode cX0_halves 82 = .ok (.iconst 0, 1) := dk_3 (dk_at dksX0_halves_3 13 rfl rfl)
theorem dX0_halves_83 : decode cX0_halves 83 = .ok (.iadd, 1) := dk_96 (dk_at dksX0_halves_3 14 rfl rfl)
theorem dX0_halves_84 : decode cX0_halves 84 = .ok (.istore_n 3, 1) := dk_62 (dk_at dksX0_halves_3 15 rfl rfl)
theorem dX0_halves_85 : decode cX0_halves 85 = .ok (.iinc 4 1, 3) := dk_132 4 1 (dk_at dksX0_halves_3 16 rfl rfl)
theorem dX0_halves_88 : decode cX0_halves 88 = .ok (.goto (-81), 3) := dk_167 255 175 (dk_at dksX0_halves_3 19 rfl rfl)
theorem dX0_halves_91 : decode cX0_halves 91 = .ok (.iconst 2, 1) := dk_5 (dk_at dksX0_halves_3 22 rfl rfl)
theorem dX0_halves_92 : decode cX0_halves 92 = .ok (.iload_n 2, 1) := dk_28 (dk_at dksX0_halves_3 23 rfl rfl)
theorem dX0_halves_93 : decode cX0_halves 93 = .ok (.imul, 1) := dk_104 (dk_at dksX0_halves_4 0 rfl rfl)
theorem dX0_halves_94 : decode cX0_halves 94 = .ok (.aload_n 0, 1) := dk_42 (dk_at dksX0_halves_4 1 rfl rfl)
theorem dX0_halves_95 : decode cX0_halves 95 = .ok (.getfield 136, 3) := dk_180 0 136 (dk_at dksX0_halves_4 2 rfl rfl)
theorem dX0_halves_98 : decode cX0_halves 98 = .ok (.if_icmp .gt 17, 3) := dk_163 0 17 (dk_at dksX0_halves_4 5 rfl rfl)
theorem dX0_halves_101 : decode cX0_halves 101 = .ok (.iconst 2, 1) := dk_5 (dk_at dksX0_halves_4 8 rfl rfl)
theorem dX0_halves_102 : decode cX0_halves 102 = .ok (.iload_n 3, 1) := dk_29 (dk_at dksX0_halves_4 9 rfl rfl)
theorem dX0_halves_103 : decode cX0_halves 103 = .ok (.imul, 1) := dk_104 (dk_at dksX0_halves_4 10 rfl rfl)
theorem dX0_halves_104 : decode cX0_halves 104 = .ok (.aload_n 0, 1) := dk_42 (dk_at dksX0_halves_4 11 rfl rfl)
theorem dX0_halves_105 : decode cX0_halves 105 = .ok (.getfield 136, 3) := dk_180 0 136 (dk_at dksX0_halves_4 12 rfl rfl)
theorem dX0_halves_108 : decode cX0_halves 108 = .ok (.if_icmp .gt 7, 3) := dk_163 0 7 (dk_at dksX0_halves_4 15 rfl rfl)
theorem dX0_halves_111 : decode cX0_halves 111 = .ok (.iconst 1, 1) := dk_4 (dk_at dksX0_halves_4 18 rfl rfl)
theorem dX0_halves_112 : decode cX0_halves 112 = .ok (.goto 4, 3) := dk_167 0 4 (dk_at dksX0_halves_4 19 rfl rfl)
theorem dX0_halves_115 : decode cX0_halves 115 = .ok (.iconst 0, 1) := dk_3 (dk_at dksX0_halves_4 22 rfl rfl)
theorem dX0_halves_116 : decode cX0_halves 116 = .ok (.ireturn, 1) := dk_172 (dk_at dksX0_halves_4 23 rfl rfl)
def dkwX0_middle_3 : List UInt8 := [160, 0, 10, 45, 180, 1, 1, 167, 0, 7, 45, 180, 0, 250, 136, 172]
abbrev dktX0_middle_3 : List UInt8 := dkwX0_middle_3 ++ []
def dkwX0_middle_2 : List UInt8 := [180, 0, 55, 27, 182, 0, 106, 192, 0, 251, 78, 28, 154, 0, 10, 45, 180, 0, 255, 167, 0, 19, 28, 4]
abbrev dktX0_middle_2 : List UInt8 := dkwX0_middle_2 ++ dktX0_middle_3
def dkwX0_middle_1 : List UInt8 := [182, 0, 102, 4, 100, 184, 0, 3, 153, 0, 12, 28, 3, 5, 184, 0, 3, 154, 0, 6, 18, 239, 172, 42]
abbrev dktX0_middle_1 : List UInt8 := dkwX0_middle_1 ++ dktX0_middle_2
def dkwX0_middle_0 : List UInt8 := [42, 182, 1, 34, 27, 2, 160, 0, 11, 42, 180, 0, 55, 182, 0, 102, 172, 27, 3, 42, 180, 0, 55]
abbrev dktX0_middle_0 : List UInt8 := dkwX0_middle_0 ++ dktX0_middle_1
theorem dksX0_middle_0 : cX0_middle.data.toList.drop 0 = dktX0_middle_0 := by decide +kernel
theorem dksX0_middle_1 : cX0_middle.data.toList.drop 23 = dktX0_middle_1 := dk_seg dksX0_middle_0 23 rfl rfl
theorem dksX0_middle_2 : cX0_middle.data.toList.drop 47 = dktX0_middle_2 := dk_seg dksX0_middle_1 24 rfl rfl
theorem dksX0_middle_3 : cX0_middle.data.toList.drop 71 = dktX0_middle_3 := dk_seg dksX0_middle_2 24 rfl rfl
theorem dX0_middle_0 : decode cX0_middle 0 = .ok (.aload_n 0, 1) := dk_42 (dk_at dksX0_middle_0 0 rfl rfl)
theorem dX0_middle_1 : decode cX0_middle 1 = .ok (.invokevirtual 290, 3) := dk_182 1 34 (dk_at dksX0_middle_0 1 rfl rfl)
theorem dX0_middle_4 : decode cX0_middle 4 = .ok (.iload_n 1, 1) := dk_27 (dk_at dksX0_middle_0 4 rfl rfl)
theorem dX0_middle_5 : decode cX0_middle 5 = .ok (.iconst (-1), 1) := dk_2 (dk_at dksX0_middle_0 5 rfl rfl)
theorem dX0_middle_6 : decode cX0_middle 6 = .ok (.if_icmp .ne 11, 3) := dk_160 0 11 (dk_at dksX0_middle_0 6 rfl rfl)
theorem dX0_middle_9 : decode cX0_middle 9 = .ok (.aload_n 0, 1) := dk_42 (dk_at dksX0_middle_0 9 rfl rfl)
theorem dX0_middle_10 : decode cX0_middle 10 = .ok (.getfield 55, 3) := dk_180 0 55 (dk_at dksX0_middle_0 10 rfl rfl)
theorem dX0_middle_13 : decode cX0_middle 13 = .ok (.invokevirtual 102, 3) := dk_182 0 102 (dk_at dksX0_middle_0 13 rfl rfl)
theorem dX0_middle_16 : decode cX0_middle 16 = .ok (.ireturn, 1) := dk_172 (dk_at dksX0_middle_0 16 rfl rfl)
theorem dX0_middle_17 : decode cX0_middle 17 = .ok (.iload_n 1, 1) := dk_27 (dk_at dksX0_middle_0 17 rfl rfl)
theorem dX0_middle_18 : decode cX0_middle 18 = .ok (.iconst 0, 1) := dk_3 (dk_at dksX0_middle_0 18 rfl rfl)
theorem dX0_middle_19 : decode cX0_middle 19 = .ok (.aload_n 0, 1) := dk_42 (dk_at dksX0_middle_0 19 rfl rfl)
theorem dX0_middle_20 : decode cX0_middle 20 = .ok (.getfield 55, 3) := dk_180 0 55 (dk_at dksX0_middle_0 20 rfl rfl)
theorem dX0_middle_23 : decode cX0_middle 23 = .ok (.invokevirtual 102, 3) := dk_182 0 102 (dk_at dksX0_middle_1 0 rfl rfl)
theorem dX0_middle_26 : decode cX0_middle 26 = .ok (.iconst 1, 1) := dk_4 (dk_at dksX0_middle_1 3 rfl rfl)
theorem dX0_middle_27 : decode cX0_middle 27 = .ok (.isub, 1) := dk_100 (dk_at dksX0_middle_1 4 rfl rfl)
theorem dX0_middle_28 : decode cX0_middle 28 = .ok (.invokestatic 3, 3) := dk_184 0 3 (dk_at dksX0_middle_1 5 rfl rfl)
theorem dX0_middle_31 : decode cX0_middle 31 = .ok (.ifCond .eq 12, 3) := dk_153 0 12 (dk_at dksX0_middle_1 8 rfl rfl)
theorem dX0_middle_34 : decode cX0_middle 34 = .ok (.iload_n 2, 1) := dk_28 (dk_at dksX0_middle_1 11 rfl rfl)
theorem dX0_middle_35 : decode cX0_middle 35 = .ok (.iconst 0, 1) := dk_3 (dk_at dksX0_middle_1 12 rfl rfl)
theorem dX0_middle_36 : decode cX0_middle 36 = .ok (.iconst 2, 1) := dk_5 (dk_at dksX0_middle_1 13 rfl rfl)
theorem dX0_middle_37 : decode cX0_middle 37 = .ok (.invokestatic 3, 3) := dk_184 0 3 (dk_at dksX0_middle_1 14 rfl rfl)
theorem dX0_middle_40 : decode cX0_middle 40 = .ok (.ifCond .ne 6, 3) := dk_154 0 6 (dk_at dksX0_middle_1 17 rfl rfl)
theorem dX0_middle_43 : decode cX0_middle 43 = .ok (.ldc 239, 2) := dk_18 239 (dk_at dksX0_middle_1 20 rfl rfl)
theorem dX0_middle_45 : decode cX0_middle 45 = .ok (.ireturn, 1) := dk_172 (dk_at dksX0_middle_1 22 rfl rfl)
theorem dX0_middle_46 : decode cX0_middle 46 = .ok (.aload_n 0, 1) := dk_42 (dk_at dksX0_middle_1 23 rfl rfl)
theorem dX0_middle_47 : decode cX0_middle 47 = .ok (.getfield 55, 3) := dk_180 0 55 (dk_at dksX0_middle_2 0 rfl rfl)
theorem dX0_middle_50 : decode cX0_middle 50 = .ok (.iload_n 1, 1) := dk_27 (dk_at dksX0_middle_2 3 rfl rfl)
theorem dX0_middle_51 : decode cX0_middle 51 = .ok (.invokevirtual 106, 3) := dk_182 0 106 (dk_at dksX0_middle_2 4 rfl rfl)
theorem dX0_middle_54 : decode cX0_middle 54 = .ok (.checkcast 251, 3) := dk_192 0 251 (dk_at dksX0_middle_2 7 rfl rfl)
theorem dX0_middle_57 : decode cX0_middle 57 = .ok (.astore_n 3, 1) := dk_78 (dk_at dksX0_middle_2 10 rfl rfl)
theorem dX0_middle_58 : decode cX0_middle 58 = .ok (.iload_n 2, 1) := dk_28 (dk_at dksX0_middle_2 11 rfl rfl)
theorem dX0_middle_59 : decode cX0_middle 59 = .ok (.ifCond .ne 10, 3) := dk_154 0 10 (dk_at dksX0_middle_2 12 rfl rfl)
theorem dX0_middle_62 : decode cX0_middle 62 = .ok (.aload_n 3, 1) := dk_45 (dk_at dksX0_middle_2 15 rfl rfl)
theorem dX0_middle_63 : decode cX0_middle 63 = .ok (.getfield 255, 3) := dk_180 0 255 (dk_at dksX0_middle_2 16 rfl rfl)
theorem dX0_middle_66 : decode cX0_middle 66 = .ok (.goto 19, 3) := dk_167 0 19 (dk_at dksX0_middle_2 19 rfl rfl)
theorem dX0_middle_69 : decode cX0_middle 69 = .ok (.iload_n 2, 1) := dk_28 (dk_at dksX0_middle_2 22 rfl rfl)
theorem dX0_middle_70 : decode cX0_middle 70 = .ok (.iconst 1, 1) := dk_4 (dk_at dksX0_middle_2 23 rfl rfl)
theorem dX0_middle_71 : decode cX0_middle 71 = .ok (.if_icmp .ne 10, 3) := dk_160 0 10 (dk_at dksX0_middle_3 0 rfl rfl)
theorem dX0_middle_74 : decode cX0_middle 74 = .ok (.aload_n 3, 1) := dk_45 (dk_at dksX0_middle_3 3 rfl rfl)
theorem dX0_middle_75 : decode cX0_middle 75 = .ok (.getfield 257, 3) := dk_180 1 1 (dk_at dksX0_middle_3 4 rfl rfl)
theorem dX0_middle_78 : decode cX0_middle 78 = .ok (.goto 7, 3) := dk_167 0 7 (dk_at dksX0_middle_3 7 rfl rfl)
theorem dX0_middle_81 : decode cX0_middle 81 = .ok (.aload_n 3, 1) := dk_45 (dk_at dksX0_middle_3 10 rfl rfl)
theorem dX0_middle_82 : decode cX0_middle 82 = .ok (.getfield 250, 3) := dk_180 0 250 (dk_at dksX0_middle_3 11 rfl rfl)
theorem dX0_middle_85 : decode cX0_middle 85 = .ok (.l2i, 1) := dk_136 (dk_at dksX0_middle_3 14 rfl rfl)
theorem dX0_middle_86 : decode cX0_middle 86 = .ok (.ireturn, 1) := dk_172 (dk_at dksX0_middle_3 15 rfl rfl)
def dkwX0_findMiddles_8 : List UInt8 := [153, 0, 7, 42, 182, 1, 28, 177]
abbrev dktX0_findMiddles_8 : List UInt8 := dkwX0_findMiddles_8 ++ []
def dkwX0_findMiddles_7 : List UInt8 := [182, 1, 17, 132, 2, 1, 167, 255, 191, 132, 1, 1, 167, 255, 172, 42, 180, 0, 55, 182, 0, 177]
abbrev dktX0_findMiddles_7 : List UInt8 := dkwX0_findMiddles_7 ++ dktX0_findMiddles_8
def dkwX0_findMiddles_6 : List UInt8 := [180, 0, 52, 27, 182, 0, 106, 192, 0, 215, 42, 180, 0, 52, 28, 182, 0, 106, 192, 0, 215, 184, 1, 24]
abbrev dktX0_findMiddles_6 : List UInt8 := dkwX0_findMiddles_6 ++ dktX0_findMiddles_7
def dkwX0_findMiddles_5 : List UInt8 := [192, 0, 215, 42, 180, 0, 52, 28, 182, 0, 106, 192, 0, 215, 182, 1, 21, 154, 0, 32, 42, 42]
abbrev dktX0_findMiddles_5 : List UInt8 := dkwX0_findMiddles_5 ++ dktX0_findMiddles_6
def dkwX0_findMiddles_4 : List UInt8 := [180, 0, 52, 182, 0, 102, 162, 0, 79, 3, 61, 28, 27, 162, 0, 66, 42, 180, 0, 52, 27, 182, 0, 106]
abbrev dktX0_findMiddles_4 : List UInt8 := dkwX0_findMiddles_4 ++ dktX0_findMiddles_5
def dkwX0_findMiddles_3 : List UInt8 := [192, 0, 110, 180, 0, 159, 133, 10, 183, 1, 14, 182, 1, 17, 132, 1, 1, 167, 255, 200, 3, 60, 27, 42]
abbrev dktX0_findMiddles_3 : List UInt8 := dkwX0_findMiddles_3 ++ dktX0_findMiddles_4
def dkwX0_findMiddles_2 : List UInt8 := [89, 42, 180, 0, 33, 27, 182, 0, 106, 192, 0, 110, 180, 0, 156, 133, 42, 180, 0, 33, 27, 182, 0, 106]
abbrev dktX0_findMiddles_2 : List UInt8 := dkwX0_findMiddles_2 ++ dktX0_findMiddles_3
def dkwX0_findMiddles_1 : List UInt8 := [42, 180, 0, 58, 3, 2, 79, 3, 60, 27, 42, 180, 0, 33, 182, 0, 102, 162, 0, 51, 42, 187, 0, 251]
abbrev dktX0_findMiddles_1 : List UInt8 := dkwX0_findMiddles_1 ++ dktX0_findMiddles_2
def dkwX0_findMiddles_0 : List UInt8 := [42, 180, 0, 96, 153, 0, 4, 177, 42, 182, 0, 236, 42, 4, 181, 0, 96, 42, 180, 0, 55, 182, 0, 133]
abbrev dktX0_findMiddles_0 : List UInt8 := dkwX0_findMiddles_0 ++ dktX0_findMiddles_1
theorem dksX0_findMiddles_0 : cX0_findMiddles.data.toList.drop 0 = dktX0_findMiddles_0 := by decide +kernel
theorem dksX0_findMiddles_1 : cX0_findMiddles.data.toList.drop 24 = dktX0_findMiddles_1 := dk_seg dksX0_findMiddles_0 24 rfl rfl
theorem dksX0_findMiddles_2 : cX0_findMiddles.data.toList.drop 48 = dktX0_findMiddles_2 := dk_seg dksX0_findMiddles_1 24 rfl rfl
theorem dksX0_findMiddles_3 : cX0_findMiddles.data.toList.drop 72 = dktX0_findMiddles_3 := dk_seg dksX0_findMiddles_2 24 rfl rfl
theorem dksX0_findMiddles_4 : cX0_findMiddles.data.toList.drop 96 = dktX0_findMiddles_4 := dk_seg dksX0_findMiddles_3 24 rfl rfl
theorem dksX0_findMiddles_5 : cX0_findMiddles.data.toList.drop 120 = dktX0_findMiddles_5 := dk_seg dksX0_findMiddles_4 24 rfl rfl
theorem dksX0_findMiddles_6 : cX0_findMiddles.data.toList.drop 142 = dktX0_findMiddles_6 := dk_seg dksX0_findMiddles_5 22 rfl rfl
theorem dksX0_findMiddles_7 : cX0_findMiddles.data.toList.drop 166 = dktX0_findMiddles_7 := dk_seg dksX0_findMiddles_6 24 rfl rfl
theorem dksX0_findMiddles_8 : cX0_findMiddles.data.toList.drop 188 = dktX0_findMiddles_8 := dk_seg dksX0_findMiddles_7 22 rfl rfl
theorem dX0_findMiddles_0 : decode cX0_findMiddles 0 = .ok (.aload_n 0, 1) := dk_42 (dk_at dksX0_findMiddles_0 0 rfl rfl)
theorem dX0_findMiddles_1 : decode cX0_findMiddles 1 = .ok (.getfield 96, 3) := dk_180 0 96 (dk_at dksX0_findMiddles_0 1 rfl rfl)
theorem dX0_findMiddles_4 : decode cX0_findMiddles 4 = .ok (.ifCond .eq 4, 3) := dk_153 0 4 (dk_at dksX0_findMiddles_0 4 rfl rfl)
theorem dX0_findMiddles_7 : decode cX0_findMiddles 7 = .ok (.return_, 1) := dk_177 (dk_at dksX0_findMiddles_0 7 rfl rfl)
theorem dX0_findMiddles_8 : decode cX0_findMiddles 8 = .ok (.aload_n 0, 1) := dk_42 (dk_at dksX0_findMiddles_0 8 rfl rfl)
theorem dX0_findMiddles_9 : decode cX0_findMiddles 9 = .ok (.invokevirtual 236, 3) := dk_182 0 236 (dk_at dksX0_findMiddles_0 9 rfl rfl)
theorem dX0_findMiddles_12 : decode cX0_findMiddles 12 = .ok (.aload_n 0, 1) := dk_42 (dk_at dksX0_findMiddles_0 12 rfl rfl)
theorem dX0_findMiddles_13 : decode cX0_findMiddles 13 = .ok (.iconst 1, 1) := dk_4 (dk_at dksX0_findMiddles_0 13 rfl rfl)
theorem dX0_findMiddles_14 : decode cX0_findMiddles 14 = .ok (.putfield 96, 3) := dk_181 0 96 (dk_at dksX0_findMiddles_0 14 rfl rfl)
theorem dX0_findMiddles_17 : decode cX0_findMiddles 17 = .ok (.aload_n 0, 1) := dk_42 (dk_at dksX0_findMiddles_0 17 rfl rfl)
theorem dX0_findMiddles_18 : decode cX0_findMiddles 18 = .ok (.getfield 55, 3) := dk_180 0 55 (dk_at dksX0_findMiddles_0 18 rfl rfl)
theorem dX0_findMiddles_21 : decode cX0_findMiddles 21 = .ok (.invokevirtual 133, 3) := dk_182 0 133 (dk_at dksX0_findMiddles_0 21 rfl rfl)
theorem dX0_findMiddles_24 : decode cX0_findMiddles 24 = .ok (.aload_n 0, 1) := dk_42 (dk_at dksX0_findMiddles_1 0 rfl rfl)
theorem dX0_findMiddles_25 : decode cX0_findMiddles 25 = .ok (.getfield 58, 3) := dk_180 0 58 (dk_at dksX0_findMiddles_1 1 rfl rfl)
theorem dX0_findMiddles_28 : decode cX0_findMiddles 28 = .ok (.iconst 0, 1) := dk_3 (dk_at dksX0_findMiddles_1 4 rfl rfl)
theorem dX0_findMiddles_29 : decode cX0_findMiddles 29 = .ok (.iconst (-1), 1) := dk_2 (dk_at dksX0_findMiddles_1 5 rfl rfl)
theorem dX0_findMiddles_30 : decode cX0_findMiddles 30 = .ok (.iastore, 1) := dk_79 (dk_at dksX0_findMiddles_1 6 rfl rfl)
theorem dX0_findMiddles_31 : decode cX0_findMiddles 31 = .ok (.iconst 0, 1) := dk_3 (dk_at dksX0_findMiddles_1 7 rfl rfl)
theorem dX0_findMiddles_32 : decode cX0_findMiddles 32 = .ok (.istore_n 1, 1) := dk_60 (dk_at dksX0_findMiddles_1 8 rfl rfl)
theorem dX0_findMiddles_33 : decode cX0_findMiddles 33 = .ok (.iload_n 1, 1) := dk_27 (dk_at dksX0_findMiddles_1 9 rfl rfl)
theorem dX0_findMiddles_34 : decode cX0_findMiddles 34 = .ok (.aload_n 0, 1) := dk_42 (dk_at dksX0_findMiddles_1 10 rfl rfl)
theorem dX0_findMiddles_35 : decode cX0_findMiddles 35 = .ok (.getfield 33, 3) := dk_180 0 33 (dk_at dksX0_findMiddles_1 11 rfl rfl)
theorem dX0_findMiddles_38 : decode cX0_findMiddles 38 = .ok (.invokevirtual 102, 3) := dk_182 0 102 (dk_at dksX0_findMiddles_1 14 rfl rfl)
theorem dX0_findMiddles_41 : decode cX0_findMiddles 41 = .ok (.if_icmp .ge 51, 3) := dk_162 0 51 (dk_at dksX0_findMiddles_1 17 rfl rfl)
theorem dX0_findMiddles_44 : decode cX0_findMiddles 44 = .ok (.aload_n 0, 1) := dk_42 (dk_at dksX0_findMiddles_1 20 rfl rfl)
theorem dX0_findMiddles_45 : decode cX0_findMiddles 45 = .ok (.new 251, 3) := dk_187 0 251 (dk_at dksX0_findMiddles_1 21 rfl rfl)
theorem dX0_findMiddles_48 : decode cX0_findMiddles 48 = .ok (.dup, 1) := dk_89 (dk_at dksX0_findMiddles_2 0 rfl rfl)
theorem dX0_findMiddles_49 : decode cX0_findMiddles 49 = .ok (.aload_n 0, 1) := dk_42 (dk_at dksX0_findMiddles_2 1 rfl rfl)
theorem dX0_findMiddles_50 : decode cX0_findMiddles 50 = .ok (.getfield 33, 3) := dk_180 0 33 (dk_at dksX0_findMiddles_2 2 rfl rfl)
theorem dX0_findMiddles_53 : decode cX0_findMiddles 53 = .ok (.iload_n 1, 1) := dk_27 (dk_at dksX0_findMiddles_2 5 rfl rfl)
theorem dX0_findMiddles_54 : decode cX0_findMiddles 54 = .ok (.invokevirtual 106, 3) := dk_182 0 106 (dk_at dksX0_findMiddles_2 6 rfl rfl)
theorem dX0_findMiddles_57 : decode cX0_findMiddles 57 = .ok (.checkcast 110, 3) := dk_192 0 110 (dk_at dksX0_findMiddles_2 9 rfl rfl)
theorem dX0_findMiddles_60 : decode cX0_findMiddles 60 = .ok (.getfield 156, 3) := dk_180 0 156 (dk_at dksX0_findMiddles_2 12 rfl rfl)
theorem dX0_findMiddles_63 : decode cX0_findMiddles 63 = .ok (.i2l, 1) := dk_133 (dk_at dksX0_findMiddles_2 15 rfl rfl)
theorem dX0_findMiddles_64 : decode cX0_findMiddles 64 = .ok (.aload_n 0, 1) := dk_42 (dk_at dksX0_findMiddles_2 16 rfl rfl)
theorem dX0_findMiddles_65 : decode cX0_findMiddles 65 = .ok (.getfield 33, 3) := dk_180 0 33 (dk_at dksX0_findMiddles_2 17 rfl rfl)
theorem dX0_findMiddles_68 : decode cX0_findMiddles 68 = .ok (.iload_n 1, 1) := dk_27 (dk_at dksX0_findMiddles_2 20 rfl rfl)
theorem dX0_findMiddles_69 : decode cX0_findMiddles 69 = .ok (.invokevirtual 106, 3) := dk_182 0 106 (dk_at dksX0_findMiddles_2 21 rfl rfl)
theorem dX0_findMiddles_72 : decode cX0_findMiddles 72 = .ok (.checkcast 110, 3) := dk_192 0 110 (dk_at dksX0_findMiddles_3 0 rfl rfl)
theorem dX0_findMiddles_75 : decode cX0_findMiddles 75 = .ok (.getfield 159, 3) := dk_180 0 159 (dk_at dksX0_findMiddles_3 3 rfl rfl)
theorem dX0_findMiddles_78 : decode cX0_findMiddles 78 = .ok (.i2l, 1) := dk_133 (dk_at dksX0_findMiddles_3 6 rfl rfl)
theorem dX0_findMiddles_79 : decode cX0_findMiddles 79 = .ok (.lconst 1, 1) := dk_10 (dk_at dksX0_findMiddles_3 7 rfl rfl)
theorem dX0_findMiddles_80 : decode cX0_findMiddles 80 = .ok (.invokespecial 270, 3) := dk_183 1 14 (dk_at dksX0_findMiddles_3 8 rfl rfl)
theorem dX0_findMiddles_83 : decode cX0_findMiddles 83 = .ok (.invokevirtual 273, 3) := dk_182 1 17 (dk_at dksX0_findMiddles_3 11 rfl rfl)
theorem dX0_findMiddles_86 : decode cX0_findMiddles 86 = .ok (.iinc 1 1, 3) := dk_132 1 1 (dk_at dksX0_findMiddles_3 14 rfl rfl)
theorem dX0_findMiddles_89 : decode cX0_findMiddles 89 = .ok (.goto (-56), 3) := dk_167 255 200 (dk_at dksX0_findMiddles_3 17 rfl rfl)
theorem dX0_findMiddles_92 : decode cX0_findMiddles 92 = .ok (.iconst 0, 1) := dk_3 (dk_at dksX0_findMiddles_3 20 rfl rfl)
theorem dX0_findMiddles_93 : decode cX0_findMiddles 93 = .ok (.istore_n 1, 1) := dk_60 (dk_at dksX0_findMiddles_3 21 rfl rfl)
theorem dX0_findMiddles_94 : decode cX0_findMiddles 94 = .ok (.iload_n 1, 1) := dk_27 (dk_at dksX0_findMiddles_3 22 rfl rfl)
theorem dX0_findMiddles_95 : decode cX0_findMiddles 95 = .ok (.aload_n 0, 1) := dk_42 (dk_at dksX0_findMiddles_3 23 rfl rfl)
theorem dX0_findMiddles_96 : decode cX0_findMiddles 96 = .ok (.getfield 52, 3) := dk_180 0 52 (dk_at dksX0_findMiddles_4 0 rfl rfl)
theorem dX0_findMiddles_99 : decode cX0_findMiddles 99 = .ok (.invokevirtual 102, 3) := dk_182 0 102 (dk_at dksX0_findMiddles_4 3 rfl rfl)
theorem dX0_findMiddles_102 : decode cX0_findMiddles 102 = .ok (.if_icmp .ge 79, 3) := dk_162 0 79 (dk_at dksX0_findMiddles_4 6 rfl rfl)
theorem dX0_findMiddles_105 : decode cX0_findMiddles 105 = .ok (.iconst 0, 1) := dk_3 (dk_at dksX0_findMiddles_4 9 rfl rfl)
theorem dX0_findMiddles_106 : decode cX0_findMiddles 106 = .ok (.istore_n 2, 1) := dk_61 (dk_at dksX0_findMiddles_4 10 rfl rfl)
theorem dX0_findMiddles_107 : decode cX0_findMiddles 107 = .ok (.iload_n 2, 1) := dk_28 (dk_at dksX0_findMiddles_4 11 rfl rfl)
theorem dX0_findMiddles_108 : decode cX0_findMiddles 108 = .ok (.iload_n 1, 1) := dk_27 (dk_at dksX0_findMiddles_4 12 rfl rfl)
theorem dX0_findMiddles_109 : decode cX0_findMiddles 109 = .ok (.if_icmp .ge 66, 3) := dk_162 0 66 (dk_at dksX0_findMiddles_4 13 rfl rfl)
theorem dX0_findMiddles_112 : decode cX0_findMiddles 112 = .ok (.aload_n 0, 1) := dk_42 (dk_at dksX0_findMiddles_4 16 rfl rfl)
theorem dX0_findMiddles_113 : decode cX0_findMiddles 113 = .ok (.getfield 52, 3) := dk_180 0 52 (dk_at dksX0_findMiddles_4 17 rfl rfl)
theorem dX0_findMiddles_116 : decode cX0_findMiddles 116 = .ok (.iload_n 1, 1) := dk_27 (dk_at dksX0_findMiddles_4 20 rfl rfl)
theorem dX0_findMiddles_117 : decode cX0_findMiddles 117 = .ok (.invokevirtual 106, 3) := dk_182 0 106 (dk_at dksX0_findMiddles_4 21 rfl rfl)
theorem dX0_findMiddles_120 : decode cX0_findMiddles 120 = .ok (.checkcast 215, 3) := dk_192 0 215 (dk_at dksX0_findMiddles_5 0 rfl rfl)
theorem dX0_findMiddles_123 : decode cX0_findMiddles 123 = .ok (.aload_n 0, 1) := dk_42 (dk_at dksX0_findMiddles_5 3 rfl rfl)
theorem dX0_findMiddles_124 : decode cX0_findMiddles 124 = .ok (.getfield 52, 3) := dk_180 0 52 (dk_at dksX0_findMiddles_5 4 rfl rfl)
theorem dX0_findMiddles_127 : decode cX0_findMiddles 127 = .ok (.iload_n 2, 1) := dk_28 (dk_at dksX0_findMiddles_5 7 rfl rfl)
theorem dX0_findMiddles_128 : decode cX0_findMiddles 128 = .ok (.invokevirtual 106, 3) := dk_182 0 106 (dk_at dksX0_findMiddles_5 8 rfl rfl)
theorem dX0_findMiddles_131 : decode cX0_findMiddles 131 = .ok (.checkcast 215, 3) := dk_192 0 215 (dk_at dksX0_findMiddles_5 11 rfl rfl)
theorem dX0_findMiddles_134 : decode cX0_findMiddles 134 = .ok (.invokevirtual 277, 3) := dk_182 1 21 (dk_at dksX0_findMiddles_5 14 rfl rfl)
theorem dX0_findMiddles_137 : decode cX0_findMiddles 137 = .ok (.ifCond .ne 32, 3) := dk_154 0 32 (dk_at dksX0_findMiddles_5 17 rfl rfl)
theorem dX0_findMiddles_140 : decode cX0_findMiddles 140 = .ok (.aload_n 0, 1) := dk_42 (dk_at dksX0_findMiddles_5 20 rfl rfl)
theorem dX0_findMiddles_141 : decode cX0_findMiddles 141 = .ok (.aload_n 0, 1) := dk_42 (dk_at dksX0_findMiddles_5 21 rfl rfl)
theorem dX0_findMiddles_142 : decode cX0_findMiddles 142 = .ok (.getfield 52, 3) := dk_180 0 52 (dk_at dksX0_findMiddles_6 0 rfl rfl)
theorem dX0_findMiddles_145 : decode cX0_findMiddles 145 = .ok (.iload_n 1, 1) := dk_27 (dk_at dksX0_findMiddles_6 3 rfl rfl)
theorem dX0_findMiddles_146 : decode cX0_findMiddles 146 = .ok (.invokevirtual 106, 3) := dk_182 0 106 (dk_at dksX0_findMiddles_6 4 rfl rfl)
theorem dX0_findMiddles_149 : decode cX0_findMiddles 149 = .ok (.checkcast 215, 3) := dk_192 0 215 (dk_at dksX0_findMiddles_6 7 rfl rfl)
theorem dX0_findMiddles_152 : decode cX0_findMiddles 152 = .ok (.aload_n 0, 1) := dk_42 (dk_at dksX0_findMiddles_6 10 rfl rfl)
theorem dX0_findMiddles_153 : decode cX0_findMiddles 153 = .ok (.getfield 52, 3) := dk_180 0 52 (dk_at dksX0_findMiddles_6 11 rfl rfl)
theorem dX0_findMiddles_156 : decode cX0_findMiddles 156 = .ok (.iload_n 2, 1) := dk_28 (dk_at dksX0_findMiddles_6 14 rfl rfl)
theorem dX0_findMiddles_157 : decode cX0_findMiddles 157 = .ok (.invokevirtual 106, 3) := dk_182 0 106 (dk_at dksX0_findMiddles_6 15 rfl rfl)
theorem dX0_findMiddles_160 : decode cX0_findMiddles 160 = .ok (.checkcast 215, 3) := dk_192 0 215 (dk_at dksX0_findMiddles_6 18 rfl rfl)
theorem dX0_findMiddles_163 : decode cX0_findMiddles 163 = .ok (.invokestatic 280, 3) := dk_184 1 24 (dk_at dksX0_findMiddles_6 21 rfl rfl)
theorem dX0_findMiddles_166 : decode cX0_findMiddles 166 = .ok (.invokevirtual 273, 3) := dk_182 1 17 (dk_at dksX0_findMiddles_7 0 rfl rfl)
theorem dX0_findMiddles_169 : decode cX0_findMiddles 169 = .ok (.iinc 2 1, 3) := dk_132 2 1 (dk_at dksX0_findMiddles_7 3 rfl rfl)
theorem dX0_findMiddles_172 : decode cX0_findMiddles 172 = .ok (.goto (-65), 3) := dk_167 255 191 (dk_at dksX0_findMiddles_7 6 rfl rfl)
theorem dX0_findMiddles_175 : decode cX0_findMiddles 175 = .ok (.iinc 1 1, 3) := dk_132 1 1 (dk_at dksX0_findMiddles_7 9 rfl rfl)
theorem dX0_findMiddles_178 : decode cX0_findMiddles 178 = .ok (.goto (-84), 3) := dk_167 255 172 (dk_at dksX0_findMiddles_7 12 rfl rfl)
theorem dX0_findMiddles_181 : decode cX0_findMiddles 181 = .ok (.aload_n 0, 1) := dk_42 (dk_at dksX0_findMiddles_7 15 rfl rfl)
theorem dX0_findMiddles_182 : decode cX0_findMiddles 182 = .ok (.getfield 55, 3) := dk_180 0 55 (dk_at dksX0_findMiddles_7 16 rfl rfl)
theorem dX0_findMiddles_185 : decode cX0_findMiddles 185 = .ok (.invokevirtual 177, 3) := dk_182 0 177 (dk_at dksX0_findMiddles_7 19 rfl rfl)
theorem dX0_findMiddles_188 : decode cX0_findMiddles 188 = .ok (.ifCond .eq 7, 3) := dk_153 0 7 (dk_at dksX0_findMiddles_8 0 rfl rfl)
theorem dX0_findMiddles_191 : decode cX0_findMiddles 191 = .ok (.aload_n 0, 1) := dk_42 (dk_at dksX0_findMiddles_8 3 rfl rfl)
theorem dX0_findMiddles_192 : decode cX0_findMiddles 192 = .ok (.invokevirtual 284, 3) := dk_182 1 28 (dk_at dksX0_findMiddles_8 4 rfl rfl)
theorem dX0_findMiddles_195 : decode cX0_findMiddles 195 = .ok (.return_, 1) := dk_177 (dk_at dksX0_findMiddles_8 7 rfl rfl)
def dkwX0_comes_3 : List UInt8 := [154, 0, 4, 177, 42, 180, 0, 55, 28, 43, 182, 0, 233, 177]
abbrev dktX0_comes_3 : List UInt8 := dkwX0_comes_3 ++ []
def dkwX0_comes_2 : List UInt8 := [42, 180, 0, 55, 28, 182, 0, 106, 192, 0, 251, 43, 182, 1, 9, 154, 0, 11, 42, 43, 182, 1, 11]
abbrev dktX0_comes_2 : List UInt8 := dkwX0_comes_2 ++ dktX0_comes_3
def dkwX0_comes_1 : List UInt8 := [43, 182, 1, 6, 153, 0, 9, 132, 2, 1, 167, 255, 224, 28, 42, 180, 0, 55, 182, 0, 102, 162, 0, 21]
abbrev dktX0_comes_1 : List UInt8 := dkwX0_comes_1 ++ dktX0_comes_2
def dkwX0_comes_0 : List UInt8 := [3, 61, 28, 42, 180, 0, 55, 182, 0, 102, 162, 0, 27, 42, 180, 0, 55, 28, 182, 0, 106, 192, 0, 251]
abbrev dktX0_comes_0 : List UInt8 := dkwX0_comes_0 ++ dktX0_comes_1
theorem dksX0_comes_0 : cX0_comes.data.toList.drop 0 = dktX0_comes_0 := by decide +kernel
theorem dksX0_comes_1 : cX0_comes.data.toList.drop 24 = dktX0_comes_1 := dk_seg dksX0_comes_0 24 rfl rfl
theorem dksX0_comes_2 : cX0_comes.data.toList.drop 48 = dktX0_comes_2 := dk_seg dksX0_comes_1 24 rfl rfl
theorem dksX0_comes_3 : cX0_comes.data.toList.drop 71 = dktX0_comes_3 := dk_seg dksX0_comes_2 23 rfl rfl
theorem dX0_comes_0 : decode cX0_comes 0 = .ok (.iconst 0, 1) := dk_3 (dk_at dksX0_comes_0 0 rfl rfl)
theorem dX0_comes_1 : decode cX0_comes 1 = .ok (.istore_n 2, 1) := dk_61 (dk_at dksX0_comes_0 1 rfl rfl)
theorem dX0_comes_2 : decode cX0_comes 2 = .ok (.iload_n 2, 1) := dk_28 (dk_at dksX0_comes_0 2 rfl rfl)
theorem dX0_comes_3 : decode cX0_comes 3 = .ok (.aload_n 0, 1) := dk_42 (dk_at dksX0_comes_0 3 rfl rfl)
theorem dX0_comes_4 : decode cX0_comes 4 = .ok (.getfield 55, 3) := dk_180 0 55 (dk_at dksX0_comes_0 4 rfl rfl)
theorem dX0_comes_7 : decode cX0_comes 7 = .ok (.invokevirtual 102, 3) := dk_182 0 102 (dk_at dksX0_comes_0 7 rfl rfl)
theorem dX0_comes_10 : decode cX0_comes 10 = .ok (.if_icmp .ge 27, 3) := dk_162 0 27 (dk_at dksX0_comes_0 10 rfl rfl)
theorem dX0_comes_13 : decode cX0_comes 13 = .ok (.aload_n 0, 1) := dk_42 (dk_at dksX0_comes_0 13 rfl rfl)
theorem dX0_comes_14 : decode cX0_comes 14 = .ok (.getfield 55, 3) := dk_180 0 55 (dk_at dksX0_comes_0 14 rfl rfl)
theorem dX0_comes_17 : decode cX0_comes 17 = .ok (.iload_n 2, 1) := dk_28 (dk_at dksX0_comes_0 17 rfl rfl)
theorem dX0_comes_18 : decode cX0_comes 18 = .ok (.invokevirtual 106, 3) := dk_182 0 106 (dk_at dksX0_comes_0 18 rfl rfl)
theorem dX0_comes_21 : decode cX0_comes 21 = .ok (.checkcast 251, 3) := dk_192 0 251 (dk_at dksX0_comes_0 21 rfl rfl)
theorem dX0_comes_24 : decode cX0_comes 24 = .ok (.aload_n 1, 1) := dk_43 (dk_at dksX0_comes_1 0 rfl rfl)
theorem dX0_comes_25 : decode cX0_comes 25 = .ok (.invokevirtual 262, 3) := dk_182 1 6 (dk_at dksX0_comes_1 1 rfl rfl)
theorem dX0_comes_28 : decode cX0_comes 28 = .ok (.ifCond .eq 9, 3) := dk_153 0 9 (dk_at dksX0_comes_1 4 rfl rfl)
theorem dX0_comes_31 : decode cX0_comes 31 = .ok (.iinc 2 1, 3) := dk_132 2 1 (dk_at dksX0_comes_1 7 rfl rfl)
theorem dX0_comes_34 : decode cX0_comes 34 = .ok (.goto (-32), 3) := dk_167 255 224 (dk_at dksX0_comes_1 10 rfl rfl)
theorem dX0_comes_37 : decode cX0_comes 37 = .ok (.iload_n 2, 1) := dk_28 (dk_at dksX0_comes_1 13 rfl rfl)
theorem dX0_comes_38 : decode cX0_comes 38 = .ok (.aload_n 0, 1) := dk_42 (dk_at dksX0_comes_1 14 rfl rfl)
theorem dX0_comes_39 : decode cX0_comes 39 = .ok (.getfield 55, 3) := dk_180 0 55 (dk_at dksX0_comes_1 15 rfl rfl)
theorem dX0_comes_42 : decode cX0_comes 42 = .ok (.invokevirtual 102, 3) := dk_182 0 102 (dk_at dksX0_comes_1 18 rfl rfl)
theorem dX0_comes_45 : decode cX0_comes 45 = .ok (.if_icmp .ge 21, 3) := dk_162 0 21 (dk_at dksX0_comes_1 21 rfl rfl)
theorem dX0_comes_48 : decode cX0_comes 48 = .ok (.aload_n 0, 1) := dk_42 (dk_at dksX0_comes_2 0 rfl rfl)
theorem dX0_comes_49 : decode cX0_comes 49 = .ok (.getfield 55, 3) := dk_180 0 55 (dk_at dksX0_comes_2 1 rfl rfl)
theorem dX0_comes_52 : decode cX0_comes 52 = .ok (.iload_n 2, 1) := dk_28 (dk_at dksX0_comes_2 4 rfl rfl)
theorem dX0_comes_53 : decode cX0_comes 53 = .ok (.invokevirtual 106, 3) := dk_182 0 106 (dk_at dksX0_comes_2 5 rfl rfl)
theorem dX0_comes_56 : decode cX0_comes 56 = .ok (.checkcast 251, 3) := dk_192 0 251 (dk_at dksX0_comes_2 8 rfl rfl)
theorem dX0_comes_59 : decode cX0_comes 59 = .ok (.aload_n 1, 1) := dk_43 (dk_at dksX0_comes_2 11 rfl rfl)
theorem dX0_comes_60 : decode cX0_comes 60 = .ok (.invokevirtual 265, 3) := dk_182 1 9 (dk_at dksX0_comes_2 12 rfl rfl)
theorem dX0_comes_63 : decode cX0_comes 63 = .ok (.ifCond .ne 11, 3) := dk_154 0 11 (dk_at dksX0_comes_2 15 rfl rfl)
theorem dX0_comes_66 : decode cX0_comes 66 = .ok (.aload_n 0, 1) := dk_42 (dk_at dksX0_comes_2 18 rfl rfl)
theorem dX0_comes_67 : decode cX0_comes 67 = .ok (.aload_n 1, 1) := dk_43 (dk_at dksX0_comes_2 19 rfl rfl)
theorem dX0_comes_68 : decode cX0_comes 68 = .ok (.invokevirtual 267, 3) := dk_182 1 11 (dk_at dksX0_comes_2 20 rfl rfl)
theorem dX0_comes_71 : decode cX0_comes 71 = .ok (.ifCond .ne 4, 3) := dk_154 0 4 (dk_at dksX0_comes_3 0 rfl rfl)
theorem dX0_comes_74 : decode cX0_comes 74 = .ok (.return_, 1) := dk_177 (dk_at dksX0_comes_3 3 rfl rfl)
theorem dX0_comes_75 : decode cX0_comes 75 = .ok (.aload_n 0, 1) := dk_42 (dk_at dksX0_comes_3 4 rfl rfl)
theorem dX0_comes_76 : decode cX0_comes 76 = .ok (.getfield 55, 3) := dk_180 0 55 (dk_at dksX0_comes_3 5 rfl rfl)
theorem dX0_comes_79 : decode cX0_comes 79 = .ok (.iload_n 2, 1) := dk_28 (dk_at dksX0_comes_3 8 rfl rfl)
theorem dX0_comes_80 : decode cX0_comes 80 = .ok (.aload_n 1, 1) := dk_43 (dk_at dksX0_comes_3 9 rfl rfl)
theorem dX0_comes_81 : decode cX0_comes 81 = .ok (.invokevirtual 233, 3) := dk_182 0 233 (dk_at dksX0_comes_3 10 rfl rfl)
theorem dX0_comes_84 : decode cX0_comes 84 = .ok (.return_, 1) := dk_177 (dk_at dksX0_comes_3 13 rfl rfl)
def dkwX0_isMiddle_13 : List UInt8 := [132, 2, 1, 167, 254, 210, 4, 172]
abbrev dktX0_isMiddle_13 : List UInt8 := dkwX0_isMiddle_13 ++ []
def dkwX0_isMiddle_12 : List UInt8 := [25, 7, 5, 46, 25, 7, 6, 46, 184, 1, 3, 96, 104, 42, 180, 0, 136, 164, 0, 5, 3, 172]
abbrev dktX0_isMiddle_12 : List UInt8 := dkwX0_isMiddle_12 ++ dktX0_isMiddle_13
def dkwX0_isMiddle_11 : List UInt8 := [180, 0, 144, 96, 79, 132, 8, 1, 167, 255, 104, 5, 25, 7, 3, 46, 25, 7, 4, 46, 184, 1, 3]
abbrev dktX0_isMiddle_11 : List UInt8 := dkwX0_isMiddle_11 ++ dktX0_isMiddle_12
def dkwX0_isMiddle_10 : List UInt8 := [148, 153, 0, 26, 25, 7, 22, 16, 9, 148, 156, 0, 7, 5, 167, 0, 4, 6, 92, 46, 25, 9]
abbrev dktX0_isMiddle_10 : List UInt8 := dkwX0_isMiddle_10 ++ dktX0_isMiddle_11
def dkwX0_isMiddle_9 : List UInt8 := [148, 156, 0, 7, 3, 167, 0, 4, 4, 92, 46, 25, 9, 180, 0, 144, 96, 79, 167, 0, 33, 22, 16, 9]
abbrev dktX0_isMiddle_9 : List UInt8 := dkwX0_isMiddle_9 ++ dktX0_isMiddle_10
def dkwX0_isMiddle_8 : List UInt8 := [33, 22, 10, 105, 22, 5, 22, 12, 105, 97, 55, 16, 22, 14, 9, 148, 153, 0, 29, 25, 7, 22, 14, 9]
abbrev dktX0_isMiddle_8 : List UInt8 := dkwX0_isMiddle_8 ++ dktX0_isMiddle_9
def dkwX0_isMiddle_7 : List UInt8 := [43, 180, 0, 250, 105, 43, 180, 1, 1, 101, 55, 12, 33, 22, 12, 105, 22, 5, 22, 10, 105, 101, 55, 14]
abbrev dktX0_isMiddle_7 : List UInt8 := dkwX0_isMiddle_7 ++ dktX0_isMiddle_8
def dkwX0_isMiddle_6 : List UInt8 := [25, 9, 180, 0, 156, 133, 43, 180, 0, 250, 105, 43, 180, 0, 255, 101, 55, 10, 25, 9, 180, 0, 159, 133]
abbrev dktX0_isMiddle_6 : List UInt8 := dkwX0_isMiddle_6 ++ dktX0_isMiddle_7
def dkwX0_isMiddle_5 : List UInt8 := [180, 0, 33, 182, 0, 102, 162, 0, 146, 42, 180, 0, 33, 21, 8, 182, 0, 106, 192, 0, 110, 58, 9]
abbrev dktX0_isMiddle_5 : List UInt8 := dkwX0_isMiddle_5 ++ dktX0_isMiddle_6
def dkwX0_isMiddle_4 : List UInt8 := [7, 162, 0, 15, 25, 7, 21, 8, 3, 79, 132, 8, 1, 167, 255, 241, 3, 54, 8, 21, 8, 42]
abbrev dktX0_isMiddle_4 : List UInt8 := dkwX0_isMiddle_4 ++ dktX0_isMiddle_5
def dkwX0_isMiddle_3 : List UInt8 := [154, 0, 13, 22, 5, 9, 148, 154, 0, 6, 167, 0, 222, 42, 180, 0, 62, 58, 7, 3, 54, 8, 21, 8]
abbrev dktX0_isMiddle_3 : List UInt8 := dkwX0_isMiddle_3 ++ dktX0_isMiddle_4
def dkwX0_isMiddle_2 : List UInt8 := [192, 0, 110, 180, 0, 159, 133, 43, 180, 0, 250, 105, 43, 180, 1, 1, 101, 55, 5, 33, 9, 148]
abbrev dktX0_isMiddle_2 : List UInt8 := dkwX0_isMiddle_2 ++ dktX0_isMiddle_3
def dkwX0_isMiddle_1 : List UInt8 := [180, 0, 156, 133, 43, 180, 0, 250, 105, 43, 180, 0, 255, 101, 66, 42, 180, 0, 33, 28, 182, 0, 106]
abbrev dktX0_isMiddle_1 : List UInt8 := dkwX0_isMiddle_1 ++ dktX0_isMiddle_2
def dkwX0_isMiddle_0 : List UInt8 := [3, 61, 28, 42, 180, 0, 33, 182, 0, 102, 162, 1, 41, 42, 180, 0, 33, 28, 182, 0, 106, 192, 0, 110]
abbrev dktX0_isMiddle_0 : List UInt8 := dkwX0_isMiddle_0 ++ dktX0_isMiddle_1
theorem dksX0_isMiddle_0 : cX0_isMiddle.data.toList.drop 0 = dktX0_isMiddle_0 := by decide +kernel
theorem dksX0_isMiddle_1 : cX0_isMiddle.data.toList.drop 24 = dktX0_isMiddle_1 := dk_seg dksX0_isMiddle_0 24 rfl rfl
theorem dksX0_isMiddle_2 : cX0_isMiddle.data.toList.drop 47 = dktX0_isMiddle_2 := dk_seg dksX0_isMiddle_1 23 rfl rfl
theorem dksX0_isMiddle_3 : cX0_isMiddle.data.toList.drop 69 = dktX0_isMiddle_3 := dk_seg dksX0_isMiddle_2 22 rfl rfl
theorem dksX0_isMiddle_4 : cX0_isMiddle.data.toList.drop 93 = dktX0_isMiddle_4 := dk_seg dksX0_isMiddle_3 24 rfl rfl
theorem dksX0_isMiddle_5 : cX0_isMiddle.data.toList.drop 115 = dktX0_isMiddle_5 := dk_seg dksX0_isMiddle_4 22 rfl rfl
theorem dksX0_isMiddle_6 : cX0_isMiddle.data.toList.drop 138 = dktX0_isMiddle_6 := dk_seg dksX0_isMiddle_5 23 rfl rfl
theorem dksX0_isMiddle_7 : cX0_isMiddle.data.toList.drop 162 = dktX0_isMiddle_7 := dk_seg dksX0_isMiddle_6 24 rfl rfl
theorem dksX0_isMiddle_8 : cX0_isMiddle.data.toList.drop 186 = dktX0_isMiddle_8 := dk_seg dksX0_isMiddle_7 24 rfl rfl
theorem dksX0_isMiddle_9 : cX0_isMiddle.data.toList.drop 210 = dktX0_isMiddle_9 := dk_seg dksX0_isMiddle_8 24 rfl rfl
theorem dksX0_isMiddle_10 : cX0_isMiddle.data.toList.drop 234 = dktX0_isMiddle_10 := dk_seg dksX0_isMiddle_9 24 rfl rfl
theorem dksX0_isMiddle_11 : cX0_isMiddle.data.toList.drop 256 = dktX0_isMiddle_11 := dk_seg dksX0_isMiddle_10 22 rfl rfl
theorem dksX0_isMiddle_12 : cX0_isMiddle.data.toList.drop 279 = dktX0_isMiddle_12 := dk_seg dksX0_isMiddle_11 23 rfl rfl
theorem dksX0_isMiddle_13 : cX0_isMiddle.data.toList.drop 301 = dktX0_isMiddle_13 := dk_seg dksX0_isMiddle_12 22 rfl rfl
theorem dX0_isMiddle_0 : decode cX0_isMiddle 0 = .ok (.iconst 0, 1) := dk_3 (dk_at dksX0_isMiddle_0 0 rfl rfl)
theorem dX0_isMiddle_1 : decode cX0_isMiddle 1 = .ok (.istore_n 2, 1) := dk_61 (dk_at dksX0_isMiddle_0 1 rfl rfl)
theorem dX0_isMiddle_2 : decode cX0_isMiddle 2 = .ok (.iload_n 2, 1) := dk_28 (dk_at dksX0_isMiddle_0 2 rfl rfl)
theorem dX0_isMiddle_3 : decode cX0_isMiddle 3 = .ok (.aload_n 0, 1) := dk_42 (dk_at dksX0_isMiddle_0 3 rfl rfl)
theorem dX0_isMiddle_4 : decode cX0_isMiddle 4 = .ok (.getfield 33, 3) := dk_180 0 33 (dk_at dksX0_isMiddle_0 4 rfl rfl)
theorem dX0_isMiddle_7 : decode cX0_isMiddle 7 = .ok (.invokevirtual 102, 3) := dk_182 0 102 (dk_at dksX0_isMiddle_0 7 rfl rfl)
theorem dX0_isMiddle_10 : decode cX0_isMiddle 10 = .ok (.if_icmp .ge 297, 3) := dk_162 1 41 (dk_at dksX0_isMiddle_0 10 rfl rfl)
theorem dX0_isMiddle_13 : decode cX0_isMiddle 13 = .ok (.aload_n 0, 1) := dk_42 (dk_at dksX0_isMiddle_0 13 rfl rfl)
theorem dX0_isMiddle_14 : decode cX0_isMiddle 14 = .ok (.getfield 33, 3) := dk_180 0 33 (dk_at dksX0_isMiddle_0 14 rfl rfl)
theorem dX0_isMiddle_17 : decode cX0_isMiddle 17 = .ok (.iload_n 2, 1) := dk_28 (dk_at dksX0_isMiddle_0 17 rfl rfl)
theorem dX0_isMiddle_18 : decode cX0_isMiddle 18 = .ok (.invokevirtual 106, 3) := dk_182 0 106 (dk_at dksX0_isMiddle_0 18 rfl rfl)
theorem dX0_isMiddle_21 : decode cX0_isMiddle 21 = .ok (.checkcast 110, 3) := dk_192 0 110 (dk_at dksX0_isMiddle_0 21 rfl rfl)
theorem dX0_isMiddle_24 : decode cX0_isMiddle 24 = .ok (.getfield 156, 3) := dk_180 0 156 (dk_at dksX0_isMiddle_1 0 rfl rfl)
theorem dX0_isMiddle_27 : decode cX0_isMiddle 27 = .ok (.i2l, 1) := dk_133 (dk_at dksX0_isMiddle_1 3 rfl rfl)
theorem dX0_isMiddle_28 : decode cX0_isMiddle 28 = .ok (.aload_n 1, 1) := dk_43 (dk_at dksX0_isMiddle_1 4 rfl rfl)
theorem dX0_isMiddle_29 : decode cX0_isMiddle 29 = .ok (.getfield 250, 3) := dk_180 0 250 (dk_at dksX0_isMiddle_1 5 rfl rfl)
theorem dX0_isMiddle_32 : decode cX0_isMiddle 32 = .ok (.lmul, 1) := dk_105 (dk_at dksX0_isMiddle_1 8 rfl rfl)
theorem dX0_isMiddle_33 : decode cX0_isMiddle 33 = .ok (.aload_n 1, 1) := dk_43 (dk_at dksX0_isMiddle_1 9 rfl rfl)
theorem dX0_isMiddle_34 : decode cX0_isMiddle 34 = .ok (.getfield 255, 3) := dk_180 0 255 (dk_at dksX0_isMiddle_1 10 rfl rfl)
theorem dX0_isMiddle_37 : decode cX0_isMiddle 37 = .ok (.lsub, 1) := dk_101 (dk_at dksX0_isMiddle_1 13 rfl rfl)
theorem dX0_isMiddle_38 : decode cX0_isMiddle 38 = .ok (.lstore_n 3, 1) := dk_66 (dk_at dksX0_isMiddle_1 14 rfl rfl)
theorem dX0_isMiddle_39 : decode cX0_isMiddle 39 = .ok (.aload_n 0, 1) := dk_42 (dk_at dksX0_isMiddle_1 15 rfl rfl)
theorem dX0_isMiddle_40 : decode cX0_isMiddle 40 = .ok (.getfield 33, 3) := dk_180 0 33 (dk_at dksX0_isMiddle_1 16 rfl rfl)
theorem dX0_isMiddle_43 : decode cX0_isMiddle 43 = .ok (.iload_n 2, 1) := dk_28 (dk_at dksX0_isMiddle_1 19 rfl rfl)
theorem dX0_isMiddle_44 : decode cX0_isMiddle 44 = .ok (.invokevirtual 106, 3) := dk_182 0 106 (dk_at dksX0_isMiddle_1 20 rfl rfl)
theorem dX0_isMiddle_47 : decode cX0_isMiddle 47 = .ok (.checkcast 110, 3) := dk_192 0 110 (dk_at dksX0_isMiddle_2 0 rfl rfl)
theorem dX0_isMiddle_50 : decode cX0_isMiddle 50 = .ok (.getfield 159, 3) := dk_180 0 159 (dk_at dksX0_isMiddle_2 3 rfl rfl)
theorem dX0_isMiddle_53 : decode cX0_isMiddle 53 = .ok (.i2l, 1) := dk_133 (dk_at dksX0_isMiddle_2 6 rfl rfl)
theorem dX0_isMiddle_54 : decode cX0_isMiddle 54 = .ok (.aload_n 1, 1) := dk_43 (dk_at dksX0_isMiddle_2 7 rfl rfl)
theorem dX0_isMiddle_55 : decode cX0_isMiddle 55 = .ok (.getfield 250, 3) := dk_180 0 250 (dk_at dksX0_isMiddle_2 8 rfl rfl)
theorem dX0_isMiddle_58 : decode cX0_isMiddle 58 = .ok (.lmul, 1) := dk_105 (dk_at dksX0_isMiddle_2 11 rfl rfl)
theorem dX0_isMiddle_59 : decode cX0_isMiddle 59 = .ok (.aload_n 1, 1) := dk_43 (dk_at dksX0_isMiddle_2 12 rfl rfl)
theorem dX0_isMiddle_60 : decode cX0_isMiddle 60 = .ok (.getfield 257, 3) := dk_180 1 1 (dk_at dksX0_isMiddle_2 13 rfl rfl)
theorem dX0_isMiddle_63 : decode cX0_isMiddle 63 = .ok (.lsub, 1) := dk_101 (dk_at dksX0_isMiddle_2 16 rfl rfl)
theorem dX0_isMiddle_64 : decode cX0_isMiddle 64 = .ok (.lstore 5, 2) := dk_55 5 (dk_at dksX0_isMiddle_2 17 rfl rfl)
theorem dX0_isMiddle_66 : decode cX0_isMiddle 66 = .ok (.lload_n 3, 1) := dk_33 (dk_at dksX0_isMiddle_2 19 rfl rfl)
theorem dX0_isMiddle_67 : decode cX0_isMiddle 67 = .ok (.lconst 0, 1) := dk_9 (dk_at dksX0_isMiddle_2 20 rfl rfl)
theorem dX0_isMiddle_68 : decode cX0_isMiddle 68 = .ok (.lcmp, 1) := dk_148 (dk_at dksX0_isMiddle_2 21 rfl rfl)
theorem dX0_isMiddle_69 : decode cX0_isMiddle 69 = .ok (.ifCond .ne 13, 3) := dk_154 0 13 (dk_at dksX0_isMiddle_3 0 rfl rfl)
theorem dX0_isMiddle_72 : decode cX0_isMiddle 72 = .ok (.lload 5, 2) := dk_22 5 (dk_at dksX0_isMiddle_3 3 rfl rfl)
theorem dX0_isMiddle_74 : decode cX0_isMiddle 74 = .ok (.lconst 0, 1) := dk_9 (dk_at dksX0_isMiddle_3 5 rfl rfl)
theorem dX0_isMiddle_75 : decode cX0_isMiddle 75 = .ok (.lcmp, 1) := dk_148 (dk_at dksX0_isMiddle_3 6 rfl rfl)
theorem dX0_isMiddle_76 : decode cX0_isMiddle 76 = .ok (.ifCond .ne 6, 3) := dk_154 0 6 (dk_at dksX0_isMiddle_3 7 rfl rfl)
theorem dX0_isMiddle_79 : decode cX0_isMiddle 79 = .ok (.goto 222, 3) := dk_167 0 222 (dk_at dksX0_isMiddle_3 10 rfl rfl)
theorem dX0_isMiddle_82 : decode cX0_isMiddle 82 = .ok (.aload_n 0, 1) := dk_42 (dk_at dksX0_isMiddle_3 13 rfl rfl)
theorem dX0_isMiddle_83 : decode cX0_isMiddle 83 = .ok (.getfield 62, 3) := dk_180 0 62 (dk_at dksX0_isMiddle_3 14 rfl rfl)
theorem dX0_isMiddle_86 : decode cX0_isMiddle 86 = .ok (.astore 7, 2) := dk_58 7 (dk_at dksX0_isMiddle_3 17 rfl rfl)
theorem dX0_isMiddle_88 : decode cX0_isMiddle 88 = .ok (.iconst 0, 1) := dk_3 (dk_at dksX0_isMiddle_3 19 rfl rfl)
theorem dX0_isMiddle_89 : decode cX0_isMiddle 89 = .ok (.istore 8, 2) := dk_54 8 (dk_at dksX0_isMiddle_3 20 rfl rfl)
theorem dX0_isMiddle_91 : decode cX0_isMiddle 91 = .ok (.iload 8, 2) := dk_21 8 (dk_at dksX0_isMiddle_3 22 rfl rfl)
theorem dX0_isMiddle_93 : decode cX0_isMiddle 93 = .ok (.iconst 4, 1) := dk_7 (dk_at dksX0_isMiddle_4 0 rfl rfl)
theorem dX0_isMiddle_94 : decode cX0_isMiddle 94 = .ok (.if_icmp .ge 15, 3) := dk_162 0 15 (dk_at dksX0_isMiddle_4 1 rfl rfl)
theorem dX0_isMiddle_97 : decode cX0_isMiddle 97 = .ok (.aload 7, 2) := dk_25 7 (dk_at dksX0_isMiddle_4 4 rfl rfl)
theorem dX0_isMiddle_99 : decode cX0_isMiddle 99 = .ok (.iload 8, 2) := dk_21 8 (dk_at dksX0_isMiddle_4 6 rfl rfl)
theorem dX0_isMiddle_101 : decode cX0_isMiddle 101 = .ok (.iconst 0, 1) := dk_3 (dk_at dksX0_isMiddle_4 8 rfl rfl)
theorem dX0_isMiddle_102 : decode cX0_isMiddle 102 = .ok (.iastore, 1) := dk_79 (dk_at dksX0_isMiddle_4 9 rfl rfl)
theorem dX0_isMiddle_103 : decode cX0_isMiddle 103 = .ok (.iinc 8 1, 3) := dk_132 8 1 (dk_at dksX0_isMiddle_4 10 rfl rfl)
theorem dX0_isMiddle_106 : decode cX0_isMiddle 106 = .ok (.goto (-15), 3) := dk_167 255 241 (dk_at dksX0_isMiddle_4 13 rfl rfl)
theorem dX0_isMiddle_109 : decode cX0_isMiddle 109 = .ok (.iconst 0, 1) := dk_3 (dk_at dksX0_isMiddle_4 16 rfl rfl)
theorem dX0_isMiddle_110 : decode cX0_isMiddle 110 = .ok (.istore 8, 2) := dk_54 8 (dk_at dksX0_isMiddle_4 17 rfl rfl)
theorem dX0_isMiddle_112 : decode cX0_isMiddle 112 = .ok (.iload 8, 2) := dk_21 8 (dk_at dksX0_isMiddle_4 19 rfl rfl)
theorem dX0_isMiddle_114 : decode cX0_isMiddle 114 = .ok (.aload_n 0, 1) := dk_42 (dk_at dksX0_isMiddle_4 21 rfl rfl)
theorem dX0_isMiddle_115 : decode cX0_isMiddle 115 = .ok (.getfield 33, 3) := dk_180 0 33 (dk_at dksX0_isMiddle_5 0 rfl rfl)
theorem dX0_isMiddle_118 : decode cX0_isMiddle 118 = .ok (.invokevirtual 102, 3) := dk_182 0 102 (dk_at dksX0_isMiddle_5 3 rfl rfl)
theorem dX0_isMiddle_121 : decode cX0_isMiddle 121 = .ok (.if_icmp .ge 146, 3) := dk_162 0 146 (dk_at dksX0_isMiddle_5 6 rfl rfl)
theorem dX0_isMiddle_124 : decode cX0_isMiddle 124 = .ok (.aload_n 0, 1) := dk_42 (dk_at dksX0_isMiddle_5 9 rfl rfl)
theorem dX0_isMiddle_125 : decode cX0_isMiddle 125 = .ok (.getfield 33, 3) := dk_180 0 33 (dk_at dksX0_isMiddle_5 10 rfl rfl)
theorem dX0_isMiddle_128 : decode cX0_isMiddle 128 = .ok (.iload 8, 2) := dk_21 8 (dk_at dksX0_isMiddle_5 13 rfl rfl)
theorem dX0_isMiddle_130 : decode cX0_isMiddle 130 = .ok (.invokevirtual 106, 3) := dk_182 0 106 (dk_at dksX0_isMiddle_5 15 rfl rfl)
theorem dX0_isMiddle_133 : decode cX0_isMiddle 133 = .ok (.checkcast 110, 3) := dk_192 0 110 (dk_at dksX0_isMiddle_5 18 rfl rfl)
theorem dX0_isMiddle_136 : decode cX0_isMiddle 136 = .ok (.astore 9, 2) := dk_58 9 (dk_at dksX0_isMiddle_5 21 rfl rfl)
theorem dX0_isMiddle_138 : decode cX0_isMiddle 138 = .ok (.aload 9, 2) := dk_25 9 (dk_at dksX0_isMiddle_6 0 rfl rfl)
theorem dX0_isMiddle_140 : decode cX0_isMiddle 140 = .ok (.getfield 156, 3) := dk_180 0 156 (dk_at dksX0_isMiddle_6 2 rfl rfl)
theorem dX0_isMiddle_143 : decode cX0_isMiddle 143 = .ok (.i2l, 1) := dk_133 (dk_at dksX0_isMiddle_6 5 rfl rfl)
theorem dX0_isMiddle_144 : decode cX0_isMiddle 144 = .ok (.aload_n 1, 1) := dk_43 (dk_at dksX0_isMiddle_6 6 rfl rfl)
theorem dX0_isMiddle_145 : decode cX0_isMiddle 145 = .ok (.getfield 250, 3) := dk_180 0 250 (dk_at dksX0_isMiddle_6 7 rfl rfl)
theorem dX0_isMiddle_148 : decode cX0_isMiddle 148 = .ok (.lmul, 1) := dk_105 (dk_at dksX0_isMiddle_6 10 rfl rfl)
theorem dX0_isMiddle_149 : decode cX0_isMiddle 149 = .ok (.aload_n 1, 1) := dk_43 (dk_at dksX0_isMiddle_6 11 rfl rfl)
theorem dX0_isMiddle_150 : decode cX0_isMiddle 150 = .ok (.getfield 255, 3) := dk_180 0 255 (dk_at dksX0_isMiddle_6 12 rfl rfl)
theorem dX0_isMiddle_153 : decode cX0_isMiddle 153 = .ok (.lsub, 1) := dk_101 (dk_at dksX0_isMiddle_6 15 rfl rfl)
theorem dX0_isMiddle_154 : decode cX0_isMiddle 154 = .ok (.lstore 10, 2) := dk_55 10 (dk_at dksX0_isMiddle_6 16 rfl rfl)
theorem dX0_isMiddle_156 : decode cX0_isMiddle 156 = .ok (.aload 9, 2) := dk_25 9 (dk_at dksX0_isMiddle_6 18 rfl rfl)
theorem dX0_isMiddle_158 : decode cX0_isMiddle 158 = .ok (.getfield 159, 3) := dk_180 0 159 (dk_at dksX0_isMiddle_6 20 rfl rfl)
theorem dX0_isMiddle_161 : decode cX0_isMiddle 161 = .ok (.i2l, 1) := dk_133 (dk_at dksX0_isMiddle_6 23 rfl rfl)
theorem dX0_isMiddle_162 : decode cX0_isMiddle 162 = .ok (.aload_n 1, 1) := dk_43 (dk_at dksX0_isMiddle_7 0 rfl rfl)
theorem dX0_isMiddle_163 : decode cX0_isMiddle 163 = .ok (.getfield 250, 3) := dk_180 0 250 (dk_at dksX0_isMiddle_7 1 rfl rfl)
theorem dX0_isMiddle_166 : decode cX0_isMiddle 166 = .ok (.lmul, 1) := dk_105 (dk_at dksX0_isMiddle_7 4 rfl rfl)
theorem dX0_isMiddle_167 : decode cX0_isMiddle 167 = .ok (.aload_n 1, 1) := dk_43 (dk_at dksX0_isMiddle_7 5 rfl rfl)
theorem dX0_isMiddle_168 : decode cX0_isMiddle 168 = .ok (.getfield 257, 3) := dk_180 1 1 (dk_at dksX0_isMiddle_7 6 rfl rfl)
theorem dX0_isMiddle_171 : decode cX0_isMiddle 171 = .ok (.lsub, 1) := dk_101 (dk_at dksX0_isMiddle_7 9 rfl rfl)
theorem dX0_isMiddle_172 : decode cX0_isMiddle 172 = .ok (.lstore 12, 2) := dk_55 12 (dk_at dksX0_isMiddle_7 10 rfl rfl)
theorem dX0_isMiddle_174 : decode cX0_isMiddle 174 = .ok (.lload_n 3, 1) := dk_33 (dk_at dksX0_isMiddle_7 12 rfl rfl)
theorem dX0_isMiddle_175 : decode cX0_isMiddle 175 = .ok (.lload 12, 2) := dk_22 12 (dk_at dksX0_isMiddle_7 13 rfl rfl)
theorem dX0_isMiddle_177 : decode cX0_isMiddle 177 = .ok (.lmul, 1) := dk_105 (dk_at dksX0_isMiddle_7 15 rfl rfl)
theorem dX0_isMiddle_178 : decode cX0_isMiddle 178 = .ok (.lload 5, 2) := dk_22 5 (dk_at dksX0_isMiddle_7 16 rfl rfl)
theorem dX0_isMiddle_180 : decode cX0_isMiddle 180 = .ok (.lload 10, 2) := dk_22 10 (dk_at dksX0_isMiddle_7 18 rfl rfl)
theorem dX0_isMiddle_182 : decode cX0_isMiddle 182 = .ok (.lmul, 1) := dk_105 (dk_at dksX0_isMiddle_7 20 rfl rfl)
theorem dX0_isMiddle_183 : decode cX0_isMiddle 183 = .ok (.lsub, 1) := dk_101 (dk_at dksX0_isMiddle_7 21 rfl rfl)
theorem dX0_isMiddle_184 : decode cX0_isMiddle 184 = .ok (.lstore 14, 2) := dk_55 14 (dk_at dksX0_isMiddle_7 22 rfl rfl)
theorem dX0_isMiddle_186 : decode cX0_isMiddle 186 = .ok (.lload_n 3, 1) := dk_33 (dk_at dksX0_isMiddle_8 0 rfl rfl)
theorem dX0_isMiddle_187 : decode cX0_isMiddle 187 = .ok (.lload 10, 2) := dk_22 10 (dk_at dksX0_isMiddle_8 1 rfl rfl)
theorem dX0_isMiddle_189 : decode cX0_isMiddle 189 = .ok (.lmul, 1) := dk_105 (dk_at dksX0_isMiddle_8 3 rfl rfl)
theorem dX0_isMiddle_190 : decode cX0_isMiddle 190 = .ok (.lload 5, 2) := dk_22 5 (dk_at dksX0_isMiddle_8 4 rfl rfl)
theorem dX0_isMiddle_192 : decode cX0_isMiddle 192 = .ok (.lload 12, 2) := dk_22 12 (dk_at dksX0_isMiddle_8 6 rfl rfl)
theorem dX0_isMiddle_194 : decode cX0_isMiddle 194 = .ok (.lmul, 1) := dk_105 (dk_at dksX0_isMiddle_8 8 rfl rfl)
theorem dX0_isMiddle_195 : decode cX0_isMiddle 195 = .ok (.ladd, 1) := dk_97 (dk_at dksX0_isMiddle_8 9 rfl rfl)
theorem dX0_isMiddle_196 : decode cX0_isMiddle 196 = .ok (.lstore 16, 2) := dk_55 16 (dk_at dksX0_isMiddle_8 10 rfl rfl)
theorem dX0_isMiddle_198 : decode cX0_isMiddle 198 = .ok (.lload 14, 2) := dk_22 14 (dk_at dksX0_isMiddle_8 12 rfl rfl)
theorem dX0_isMiddle_200 : decode cX0_isMiddle 200 = .ok (.lconst 0, 1) := dk_9 (dk_at dksX0_isMiddle_8 14 rfl rfl)
theorem dX0_isMiddle_201 : decode cX0_isMiddle 201 = .ok (.lcmp, 1) := dk_148 (dk_at dksX0_isMiddle_8 15 rfl rfl)
theorem dX0_isMiddle_202 : decode cX0_isMiddle 202 = .ok (.ifCond .eq 29, 3) := dk_153 0 29 (dk_at dksX0_isMiddle_8 16 rfl rfl)
theorem dX0_isMiddle_205 : decode cX0_isMiddle 205 = .ok (.aload 7, 2) := dk_25 7 (dk_at dksX0_isMiddle_8 19 rfl rfl)
theorem dX0_isMiddle_207 : decode cX0_isMiddle 207 = .ok (.lload 14, 2) := dk_22 14 (dk_at dksX0_isMiddle_8 21 rfl rfl)
theorem dX0_isMiddle_209 : decode cX0_isMiddle 209 = .ok (.lconst 0, 1) := dk_9 (dk_at dksX0_isMiddle_8 23 rfl rfl)
theorem dX0_isMiddle_210 : decode cX0_isMiddle 210 = .ok (.lcmp, 1) := dk_148 (dk_at dksX0_isMiddle_9 0 rfl rfl)
theorem dX0_isMiddle_211 : decode cX0_isMiddle 211 = .ok (.ifCond .ge 7, 3) := dk_156 0 7 (dk_at dksX0_isMiddle_9 1 rfl rfl)
theorem dX0_isMiddle_214 : decode cX0_isMiddle 214 = .ok (.iconst 0, 1) := dk_3 (dk_at dksX0_isMiddle_9 4 rfl rfl)
theorem dX0_isMiddle_215 : decode cX0_isMiddle 215 = .ok (.goto 4, 3) := dk_167 0 4 (dk_at dksX0_isMiddle_9 5 rfl rfl)
theorem dX0_isMiddle_218 : decode cX0_isMiddle 218 = .ok (.iconst 1, 1) := dk_4 (dk_at dksX0_isMiddle_9 8 rfl rfl)
theorem dX0_isMiddle_219 : decode cX0_isMiddle 219 = .ok (.dup2, 1) := dk_92 (dk_at dksX0_isMiddle_9 9 rfl rfl)
theorem dX0_isMiddle_220 : decode cX0_isMiddle 220 = .ok (.iaload, 1) := dk_46 (dk_at dksX0_isMiddle_9 10 rfl rfl)
theorem dX0_isMiddle_221 : decode cX0_isMiddle 221 = .ok (.aload 9, 2) := dk_25 9 (dk_at dksX0_isMiddle_9 11 rfl rfl)
theorem dX0_isMiddle_223 : decode cX0_isMiddle 223 = .ok (.getfield 144, 3) := dk_180 0 144 (dk_at dksX0_isMiddle_9 13 rfl rfl)
theorem dX0_isMiddle_226 : decode cX0_isMiddle 226 = .ok (.iadd, 1) := dk_96 (dk_at dksX0_isMiddle_9 16 rfl rfl)
theorem dX0_isMiddle_227 : decode cX0_isMiddle 227 = .ok (.iastore, 1) := dk_79 (dk_at dksX0_isMiddle_9 17 rfl rfl)
theorem dX0_isMiddle_228 : decode cX0_isMiddle 228 = .ok (.goto 33, 3) := dk_167 0 33 (dk_at dksX0_isMiddle_9 18 rfl rfl)
theorem dX0_isMiddle_231 : decode cX0_isMiddle 231 = .ok (.lload 16, 2) := dk_22 16 (dk_at dksX0_isMiddle_9 21 rfl rfl)
theorem dX0_isMiddle_233 : decode cX0_isMiddle 233 = .ok (.lconst 0, 1) := dk_9 (dk_at dksX0_isMiddle_9 23 rfl rfl)
theorem dX0_isMiddle_234 : decode cX0_isMiddle 234 = .ok (.lcmp, 1) := dk_148 (dk_at dksX0_isMiddle_10 0 rfl rfl)
theorem dX0_isMiddle_235 : decode cX0_isMiddle 235 = .ok (.ifCond .eq 26, 3) := dk_153 0 26 (dk_at dksX0_isMiddle_10 1 rfl rfl)
theorem dX0_isMiddle_238 : decode cX0_isMiddle 238 = .ok (.aload 7, 2) := dk_25 7 (dk_at dksX0_isMiddle_10 4 rfl rfl)
theorem dX0_isMiddle_240 : decode cX0_isMiddle 240 = .ok (.lload 16, 2) := dk_22 16 (dk_at dksX0_isMiddle_10 6 rfl rfl)
theorem dX0_isMiddle_242 : decode cX0_isMiddle 242 = .ok (.lconst 0, 1) := dk_9 (dk_at dksX0_isMiddle_10 8 rfl rfl)
theorem dX0_isMiddle_243 : decode cX0_isMiddle 243 = .ok (.lcmp, 1) := dk_148 (dk_at dksX0_isMiddle_10 9 rfl rfl)
theorem dX0_isMiddle_244 : decode cX0_isMiddle 244 = .ok (.ifCond .ge 7, 3) := dk_156 0 7 (dk_at dksX0_isMiddle_10 10 rfl rfl)
theorem dX0_isMiddle_247 : decode cX0_isMiddle 247 = .ok (.iconst 2, 1) := dk_5 (dk_at dksX0_isMiddle_10 13 rfl rfl)
theorem dX0_isMiddle_248 : decode cX0_isMiddle 248 = .ok (.goto 4, 3) := dk_167 0 4 (dk_at dksX0_isMiddle_10 14 rfl rfl)
theorem dX0_isMiddle_251 : decode cX0_isMiddle 251 = .ok (.iconst 3, 1) := dk_6 (dk_at dksX0_isMiddle_10 17 rfl rfl)
theorem dX0_isMiddle_252 : decode cX0_isMiddle 252 = .ok (.dup2, 1) := dk_92 (dk_at dksX0_isMiddle_10 18 rfl rfl)
theorem dX0_isMiddle_253 : decode cX0_isMiddle 253 = .ok (.iaload, 1) := dk_46 (dk_at dksX0_isMiddle_10 19 rfl rfl)
theorem dX0_isMiddle_254 : decode cX0_isMiddle 254 = .ok (.aload 9, 2) := dk_25 9 (dk_at dksX0_isMiddle_10 20 rfl rfl)
theorem dX0_isMiddle_256 : decode cX0_isMiddle 256 = .ok (.getfield 144, 3) := dk_180 0 144 (dk_at dksX0_isMiddle_11 0 rfl rfl)
theorem dX0_isMiddle_259 : decode cX0_isMiddle 259 = .ok (.iadd, 1) := dk_96 (dk_at dksX0_isMiddle_11 3 rfl rfl)
theorem dX0_isMiddle_260 : decode cX0_isMiddle 260 = .ok (.iastore, 1) := dk_79 (dk_at dksX0_isMiddle_11 4 rfl rfl)
theorem dX0_isMiddle_261 : decode cX0_isMiddle 261 = .ok (.iinc 8 1, 3) := dk_132 8 1 (dk_at dksX0_isMiddle_11 5 rfl rfl)
theorem dX0_isMiddle_264 : decode cX0_isMiddle 264 = .ok (.goto (-152), 3) := dk_167 255 104 (dk_at dksX0_isMiddle_11 8 rfl rfl)
theorem dX0_isMiddle_267 : decode cX0_isMiddle 267 = .ok (.iconst 2, 1) := dk_5 (dk_at dksX0_isMiddle_11 11 rfl rfl)
theorem dX0_isMiddle_268 : decode cX0_isMiddle 268 = .ok (.aload 7, 2) := dk_25 7 (dk_at dksX0_isMiddle_11 12 rfl rfl)
theorem dX0_isMiddle_270 : decode cX0_isMiddle 270 = .ok (.iconst 0, 1) := dk_3 (dk_at dksX0_isMiddle_11 14 rfl rfl)
theorem dX0_isMiddle_271 : decode cX0_isMiddle 271 = .ok (.iaload, 1) := dk_46 (dk_at dksX0_isMiddle_11 15 rfl rfl)
theorem dX0_isMiddle_272 : decode cX0_isMiddle 272 = .ok (.aload 7, 2) := dk_25 7 (dk_at dksX0_isMiddle_11 16 rfl rfl)
theorem dX0_isMiddle_274 : decode cX0_isMiddle 274 = .ok (.iconst 1, 1) := dk_4 (dk_at dksX0_isMiddle_11 18 rfl rfl)
theorem dX0_isMiddle_275 : decode cX0_isMiddle 275 = .ok (.iaload, 1) := dk_46 (dk_at dksX0_isMiddle_11 19 rfl rfl)
theorem dX0_isMiddle_276 : decode cX0_isMiddle 276 = .ok (.invokestatic 259, 3) := dk_184 1 3 (dk_at dksX0_isMiddle_11 20 rfl rfl)
theorem dX0_isMiddle_279 : decode cX0_isMiddle 279 = .ok (.aload 7, 2) := dk_25 7 (dk_at dksX0_isMiddle_12 0 rfl rfl)
theorem dX0_isMiddle_281 : decode cX0_isMiddle 281 = .ok (.iconst 2, 1) := dk_5 (dk_at dksX0_isMiddle_12 2 rfl rfl)
theorem dX0_isMiddle_282 : decode cX0_isMiddle 282 = .ok (.iaload, 1) := dk_46 (dk_at dksX0_isMiddle_12 3 rfl rfl)
theorem dX0_isMiddle_283 : decode cX0_isMiddle 283 = .ok (.aload 7, 2) := dk_25 7 (dk_at dksX0_isMiddle_12 4 rfl rfl)
theorem dX0_isMiddle_285 : decode cX0_isMiddle 285 = .ok (.iconst 3, 1) := dk_6 (dk_at dksX0_isMiddle_12 6 rfl rfl)
theorem dX0_isMiddle_286 : decode cX0_isMiddle 286 = .ok (.iaload, 1) := dk_46 (dk_at dksX0_isMiddle_12 7 rfl rfl)
theorem dX0_isMiddle_287 : decode cX0_isMiddle 287 = .ok (.invokestatic 259, 3) := dk_184 1 3 (dk_at dksX0_isMiddle_12 8 rfl rfl)
theorem dX0_isMiddle_290 : decode cX0_isMiddle 290 = .ok (.iadd, 1) := dk_96 (dk_at dksX0_isMiddle_12 11 rfl rfl)
theorem dX0_isMiddle_291 : decode cX0_isMiddle 291 = .ok (.imul, 1) := dk_104 (dk_at dksX0_isMiddle_12 12 rfl rfl)
theorem dX0_isMiddle_292 : decode cX0_isMiddle 292 = .ok (.aload_n 0, 1) := dk_42 (dk_at dksX0_isMiddle_12 13 rfl rfl)
theorem dX0_isMiddle_293 : decode cX0_isMiddle 293 = .ok (.getfield 136, 3) := dk_180 0 136 (dk_at dksX0_isMiddle_12 14 rfl rfl)
theorem dX0_isMiddle_296 : decode cX0_isMiddle 296 = .ok (.if_icmp .le 5, 3) := dk_164 0 5 (dk_at dksX0_isMiddle_12 17 rfl rfl)
theorem dX0_isMiddle_299 : decode cX0_isMiddle 299 = .ok (.iconst 0, 1) := dk_3 (dk_at dksX0_isMiddle_12 20 rfl rfl)
theorem dX0_isMiddle_300 : decode cX0_isMiddle 300 = .ok (.ireturn, 1) := dk_172 (dk_at dksX0_isMiddle_12 21 rfl rfl)
theorem dX0_isMiddle_301 : decode cX0_isMiddle 301 = .ok (.iinc 2 1, 3) := dk_132 2 1 (dk_at dksX0_isMiddle_13 0 rfl rfl)
theorem dX0_isMiddle_304 : decode cX0_isMiddle 304 = .ok (.goto (-302), 3) := dk_167 254 210 (dk_at dksX0_isMiddle_13 3 rfl rfl)
theorem dX0_isMiddle_307 : decode cX0_isMiddle 307 = .ok (.iconst 1, 1) := dk_4 (dk_at dksX0_isMiddle_13 6 rfl rfl)
theorem dX0_isMiddle_308 : decode cX0_isMiddle 308 = .ok (.ireturn, 1) := dk_172 (dk_at dksX0_isMiddle_13 7 rfl rfl)
def dkwX0_proves_7 : List UInt8 := [167, 255, 190, 132, 2, 1, 167, 255, 107, 132, 1, 1, 167, 255, 86, 177]
abbrev dktX0_proves_7 : List UInt8 := dkwX0_proves_7 ++ []
def dkwX0_proves_6 : List UInt8 := [3, 27, 79, 42, 180, 0, 58, 4, 28, 79, 42, 180, 0, 58, 5, 21, 5, 79, 177, 132, 5, 1]
abbrev dktX0_proves_6 : List UInt8 := dkwX0_proves_6 ++ dktX0_proves_7
def dkwX0_proves_5 : List UInt8 := [180, 0, 52, 21, 5, 182, 0, 106, 192, 0, 215, 182, 1, 31, 153, 0, 6, 167, 0, 26, 42, 180, 0, 58]
abbrev dktX0_proves_5 : List UInt8 := dkwX0_proves_5 ++ dktX0_proves_6
def dkwX0_proves_4 : List UInt8 := [96, 54, 5, 21, 5, 42, 180, 0, 52, 182, 0, 102, 162, 0, 60, 25, 4, 198, 0, 26, 25, 4, 42]
abbrev dktX0_proves_4 : List UInt8 := dkwX0_proves_4 ++ dktX0_proves_5
def dkwX0_proves_3 : List UInt8 := [182, 0, 106, 192, 0, 215, 42, 180, 0, 52, 28, 182, 0, 106, 192, 0, 215, 184, 1, 24, 58, 4, 28, 4]
abbrev dktX0_proves_3 : List UInt8 := dkwX0_proves_3 ++ dktX0_proves_4
def dkwX0_proves_2 : List UInt8 := [182, 0, 106, 192, 0, 215, 182, 1, 21, 62, 29, 153, 0, 7, 1, 167, 0, 28, 42, 180, 0, 52, 27]
abbrev dktX0_proves_2 : List UInt8 := dkwX0_proves_2 ++ dktX0_proves_3
def dkwX0_proves_1 : List UInt8 := [182, 0, 102, 162, 0, 144, 42, 180, 0, 52, 27, 182, 0, 106, 192, 0, 215, 42, 180, 0, 52, 28]
abbrev dktX0_proves_1 : List UInt8 := dkwX0_proves_1 ++ dktX0_proves_2
def dkwX0_proves_0 : List UInt8 := [3, 60, 27, 42, 180, 0, 52, 182, 0, 102, 162, 0, 165, 27, 4, 96, 61, 28, 42, 180, 0, 52]
abbrev dktX0_proves_0 : List UInt8 := dkwX0_proves_0 ++ dktX0_proves_1
theorem dksX0_proves_0 : cX0_proves.data.toList.drop 0 = dktX0_proves_0 := by decide +kernel
theorem dksX0_proves_1 : cX0_proves.data.toList.drop 22 = dktX0_proves_1 := dk_seg dksX0_proves_0 22 rfl rfl
theorem dksX0_proves_2 : cX0_proves.data.toList.drop 44 = dktX0_proves_2 := dk_seg dksX0_proves_1 22 rfl rfl
theorem dksX0_proves_3 : cX0_proves.data.toList.drop 67 = dktX0_proves_3 := dk_seg dksX0_proves_2 23 rfl rfl
theorem dksX0_proves_4 : cX0_proves.data.toList.drop 91 = dktX0_proves_4 := dk_seg dksX0_proves_3 24 rfl rfl
theorem dksX0_proves_5 : cX0_proves.data.toList.drop 114 = dktX0_proves_5 := dk_seg dksX0_proves_4 23 rfl rfl
theorem dksX0_proves_6 : cX0_proves.data.toList.drop 138 = dktX0_proves_6 := dk_seg dksX0_proves_5 24 rfl rfl
theorem dksX0_proves_7 : cX0_proves.data.toList.drop 160 = dktX0_proves_7 := dk_seg dksX0_proves_6 22 rfl rfl
theorem dX0_proves_0 : decode cX0_proves 0 = .ok (.iconst 0, 1) := dk_3 (dk_at dksX0_proves_0 0 rfl rfl)
theorem dX0_proves_1 : decode cX0_proves 1 = .ok (.istore_n 1, 1) := dk_60 (dk_at dksX0_proves_0 1 rfl rfl)
theorem dX0_proves_2 : decode cX0_proves 2 = .ok (.iload_n 1, 1) := dk_27 (dk_at dksX0_proves_0 2 rfl rfl)
theorem dX0_proves_3 : decode cX0_proves 3 = .ok (.aload_n 0, 1) := dk_42 (dk_at dksX0_proves_0 3 rfl rfl)
theorem dX0_proves_4 : decode cX0_proves 4 = .ok (.getfield 52, 3) := dk_180 0 52 (dk_at dksX0_proves_0 4 rfl rfl)
theorem dX0_proves_7 : decode cX0_proves 7 = .ok (.invokevirtual 102, 3) := dk_182 0 102 (dk_at dksX0_proves_0 7 rfl rfl)
theorem dX0_proves_10 : decode cX0_proves 10 = .ok (.if_icmp .ge 165, 3) := dk_162 0 165 (dk_at dksX0_proves_0 10 rfl rfl)
theorem dX0_proves_13 : decode cX0_proves 13 = .ok (.iload_n 1, 1) := dk_27 (dk_at dksX0_proves_0 13 rfl rfl)
theorem dX0_proves_14 : decode cX0_proves 14 = .ok (.iconst 1, 1) := dk_4 (dk_at dksX0_proves_0 14 rfl rfl)
theorem dX0_proves_15 : decode cX0_proves 15 = .ok (.iadd, 1) := dk_96 (dk_at dksX0_proves_0 15 rfl rfl)
theorem dX0_proves_16 : decode cX0_proves 16 = .ok (.istore_n 2, 1) := dk_61 (dk_at dksX0_proves_0 16 rfl rfl)
theorem dX0_proves_17 : decode cX0_proves 17 = .ok (.iload_n 2, 1) := dk_28 (dk_at dksX0_proves_0 17 rfl rfl)
theorem dX0_proves_18 : decode cX0_proves 18 = .ok (.aload_n 0, 1) := dk_42 (dk_at dksX0_proves_0 18 rfl rfl)
theorem dX0_proves_19 : decode cX0_proves 19 = .ok (.getfield 52, 3) := dk_180 0 52 (dk_at dksX0_proves_0 19 rfl rfl)
theorem dX0_proves_22 : decode cX0_proves 22 = .ok (.invokevirtual 102, 3) := dk_182 0 102 (dk_at dksX0_proves_1 0 rfl rfl)
theorem dX0_proves_25 : decode cX0_proves 25 = .ok (.if_icmp .ge 144, 3) := dk_162 0 144 (dk_at dksX0_proves_1 3 rfl rfl)
theorem dX0_proves_28 : decode cX0_proves 28 = .ok (.aload_n 0, 1) := dk_42 (dk_at dksX0_proves_1 6 rfl rfl)
theorem dX0_proves_29 : decode cX0_proves 29 = .ok (.getfield 52, 3) := dk_180 0 52 (dk_at dksX0_proves_1 7 rfl rfl)
theorem dX0_proves_32 : decode cX0_proves 32 = .ok (.iload_n 1, 1) := dk_27 (dk_at dksX0_proves_1 10 rfl rfl)
theorem dX0_proves_33 : decode cX0_proves 33 = .ok (.invokevirtual 106, 3) := dk_182 0 106 (dk_at dksX0_proves_1 11 rfl rfl)
theorem dX0_proves_36 : decode cX0_proves 36 = .ok (.checkcast 215, 3) := dk_192 0 215 (dk_at dksX0_proves_1 14 rfl rfl)
theorem dX0_proves_39 : decode cX0_proves 39 = .ok (.aload_n 0, 1) := dk_42 (dk_at dksX0_proves_1 17 rfl rfl)
theorem dX0_proves_40 : decode cX0_proves 40 = .ok (.getfield 52, 3) := dk_180 0 52 (dk_at dksX0_proves_1 18 rfl rfl)
theorem dX0_proves_43 : decode cX0_proves 43 = .ok (.iload_n 2, 1) := dk_28 (dk_at dksX0_proves_1 21 rfl rfl)
theorem dX0_proves_44 : decode cX0_proves 44 = .ok (.invokevirtual 106, 3) := dk_182 0 106 (dk_at dksX0_proves_2 0 rfl rfl)
theorem dX0_proves_47 : decode cX0_proves 47 = .ok (.checkcast 215, 3) := dk_192 0 215 (dk_at dksX0_proves_2 3 rfl rfl)
theorem dX0_proves_50 : decode cX0_proves 50 = .ok (.invokevirtual 277, 3) := dk_182 1 21 (dk_at dksX0_proves_2 6 rfl rfl)
theorem dX0_proves_53 : decode cX0_proves 53 = .ok (.istore_n 3, 1) := dk_62 (dk_at dksX0_proves_2 9 rfl rfl)
theorem dX0_proves_54 : decode cX0_proves 54 = .ok (.iload_n 3, 1) := dk_29 (dk_at dksX0_proves_2 10 rfl rfl)
theorem dX0_proves_55 : decode cX0_proves 55 = .ok (.ifCond .eq 7, 3) := dk_153 0 7 (dk_at dksX0_proves_2 11 rfl rfl)
theorem dX0_proves_58 : decode cX0_proves 58 = .ok (.aconst_null, 1) := dk_1 (dk_at dksX0_proves_2 14 rfl rfl)
theorem dX0_proves_59 : decode cX0_proves 59 = .ok (.goto 28, 3) := dk_167 0 28 (dk_at dksX0_proves_2 15 rfl rfl)
theorem dX0_proves_62 : decode cX0_proves 62 = .ok (.aload_n 0, 1) := dk_42 (dk_at dksX0_proves_2 18 rfl rfl)
theorem dX0_proves_63 : decode cX0_proves 63 = .ok (.getfield 52, 3) := dk_180 0 52 (dk_at dksX0_proves_2 19 rfl rfl)
theorem dX0_proves_66 : decode cX0_proves 66 = .ok (.iload_n 1, 1) := dk_27 (dk_at dksX0_proves_2 22 rfl rfl)
theorem dX0_proves_67 : decode cX0_proves 67 = .ok (.invokevirtual 106, 3) := dk_182 0 106 (dk_at dksX0_proves_3 0 rfl rfl)
theorem dX0_proves_70 : decode cX0_proves 70 = .ok (.checkcast 215, 3) := dk_192 0 215 (dk_at dksX0_proves_3 3 rfl rfl)
theorem dX0_proves_73 : decode cX0_proves 73 = .ok (.aload_n 0, 1) := dk_42 (dk_at dksX0_proves_3 6 rfl rfl)
theorem dX0_proves_74 : decode cX0_proves 74 = .ok (.getfield 52, 3) := dk_180 0 52 (dk_at dksX0_proves_3 7 rfl rfl)
theorem dX0_proves_77 : decode cX0_proves 77 = .ok (.iload_n 2, 1) := dk_28 (dk_at dksX0_proves_3 10 rfl rfl)
theorem dX0_proves_78 : decode cX0_proves 78 = .ok (.invokevirtual 106, 3) := dk_182 0 106 (dk_at dksX0_proves_3 11 rfl rfl)
theorem dX0_proves_81 : decode cX0_proves 81 = .ok (.checkcast 215, 3) := dk_192 0 215 (dk_at dksX0_proves_3 14 rfl rfl)
theorem dX0_proves_84 : decode cX0_proves 84 = .ok (.invokestatic 280, 3) := dk_184 1 24 (dk_at dksX0_proves_3 17 rfl rfl)
theorem dX0_proves_87 : decode cX0_proves 87 = .ok (.astore 4, 2) := dk_58 4 (dk_at dksX0_proves_3 20 rfl rfl)
theorem dX0_proves_89 : decode cX0_proves 89 = .ok (.iload_n 2, 1) := dk_28 (dk_at dksX0_proves_3 22 rfl rfl)
theorem dX0_proves_90 : decode cX0_proves 90 = .ok (.iconst 1, 1) := dk_4 (dk_at dksX0_proves_3 23 rfl rfl)
theorem dX0_proves_91 : decode cX0_proves 91 = .ok (.iadd, 1) := dk_96 (dk_at dksX0_proves_4 0 rfl rfl)
theorem dX0_proves_92 : decode cX0_proves 92 = .ok (.istore 5, 2) := dk_54 5 (dk_at dksX0_proves_4 1 rfl rfl)
theorem dX0_proves_94 : decode cX0_proves 94 = .ok (.iload 5, 2) := dk_21 5 (dk_at dksX0_proves_4 3 rfl rfl)
theorem dX0_proves_96 : decode cX0_proves 96 = .ok (.aload_n 0, 1) := dk_42 (dk_at dksX0_proves_4 5 rfl rfl)
theorem dX0_proves_97 : decode cX0_proves 97 = .ok (.getfield 52, 3) := dk_180 0 52 (dk_at dksX0_proves_4 6 rfl rfl)
theorem dX0_proves_100 : decode cX0_proves 100 = .ok (.invokevirtual 102, 3) := dk_182 0 102 (dk_at dksX0_proves_4 9 rfl rfl)
theorem dX0_proves_103 : decode cX0_proves 103 = .ok (.if_icmp .ge 60, 3) := dk_162 0 60 (dk_at dksX0_proves_4 12 rfl rfl)
theorem dX0_proves_106 : decode cX0_proves 106 = .ok (.aload 4, 2) := dk_25 4 (dk_at dksX0_proves_4 15 rfl rfl)
theorem dX0_proves_108 : decode cX0_proves 108 = .ok (.ifnull 26, 3) := dk_198 0 26 (dk_at dksX0_proves_4 17 rfl rfl)
theorem dX0_proves_111 : decode cX0_proves 111 = .ok (.aload 4, 2) := dk_25 4 (dk_at dksX0_proves_4 20 rfl rfl)
theorem dX0_proves_113 : decode cX0_proves 113 = .ok (.aload_n 0, 1) := dk_42 (dk_at dksX0_proves_4 22 rfl rfl)
theorem dX0_proves_114 : decode cX0_proves 114 = .ok (.getfield 52, 3) := dk_180 0 52 (dk_at dksX0_proves_5 0 rfl rfl)
theorem dX0_proves_117 : decode cX0_proves 117 = .ok (.iload 5, 2) := dk_21 5 (dk_at dksX0_proves_5 3 rfl rfl)
theorem dX0_proves_119 : decode cX0_proves 119 = .ok (.invokevirtual 106, 3) := dk_182 0 106 (dk_at dksX0_proves_5 5 rfl rfl)
theorem dX0_proves_122 : decode cX0_proves 122 = .ok (.checkcast 215, 3) := dk_192 0 215 (dk_at dksX0_proves_5 8 rfl rfl)
theorem dX0_proves_125 : decode cX0_proves 125 = .ok (.invokevirtual 287, 3) := dk_182 1 31 (dk_at dksX0_proves_5 11 rfl rfl)
theorem dX0_proves_128 : decode cX0_proves 128 = .ok (.ifCond .eq 6, 3) := dk_153 0 6 (dk_at dksX0_proves_5 14 rfl rfl)
theorem dX0_proves_131 : decode cX0_proves 131 = .ok (.goto 26, 3) := dk_167 0 26 (dk_at dksX0_proves_5 17 rfl rfl)
theorem dX0_proves_134 : decode cX0_proves 134 = .ok (.aload_n 0, 1) := dk_42 (dk_at dksX0_proves_5 20 rfl rfl)
theorem dX0_proves_135 : decode cX0_proves 135 = .ok (.getfield 58, 3) := dk_180 0 58 (dk_at dksX0_proves_5 21 rfl rfl)
theorem dX0_proves_138 : decode cX0_proves 138 = .ok (.iconst 0, 1) := dk_3 (dk_at dksX0_proves_6 0 rfl rfl)
theorem dX0_proves_139 : decode cX0_proves 139 = .ok (.iload_n 1, 1) := dk_27 (dk_at dksX0_proves_6 1 rfl rfl)
theorem dX0_proves_140 : decode cX0_proves 140 = .ok (.iastore, 1) := dk_79 (dk_at dksX0_proves_6 2 rfl rfl)
theorem dX0_proves_141 : decode cX0_proves 141 = .ok (.aload_n 0, 1) := dk_42 (dk_at dksX0_proves_6 3 rfl rfl)
theorem dX0_proves_142 : decode cX0_proves 142 = .ok (.getfield 58, 3) := dk_180 0 58 (dk_at dksX0_proves_6 4 rfl rfl)
theorem dX0_proves_145 : decode cX0_proves 145 = .ok (.iconst 1, 1) := dk_4 (dk_at dksX0_proves_6 7 rfl rfl)
theorem dX0_proves_146 : decode cX0_proves 146 = .ok (.iload_n 2, 1) := dk_28 (dk_at dksX0_proves_6 8 rfl rfl)
theorem dX0_proves_147 : decode cX0_proves 147 = .ok (.iastore, 1) := dk_79 (dk_at dksX0_proves_6 9 rfl rfl)
theorem dX0_proves_148 : decode cX0_proves 148 = .ok (.aload_n 0, 1) := dk_42 (dk_at dksX0_proves_6 10 rfl rfl)
theorem dX0_proves_149 : decode cX0_proves 149 = .ok (.getfield 58, 3) := dk_180 0 58 (dk_at dksX0_proves_6 11 rfl rfl)
theorem dX0_proves_152 : decode cX0_proves 152 = .ok (.iconst 2, 1) := dk_5 (dk_at dksX0_proves_6 14 rfl rfl)
theorem dX0_proves_153 : decode cX0_proves 153 = .ok (.iload 5, 2) := dk_21 5 (dk_at dksX0_proves_6 15 rfl rfl)
theorem dX0_proves_155 : decode cX0_proves 155 = .ok (.iastore, 1) := dk_79 (dk_at dksX0_proves_6 17 rfl rfl)
theorem dX0_proves_156 : decode cX0_proves 156 = .ok (.return_, 1) := dk_177 (dk_at dksX0_proves_6 18 rfl rfl)
theorem dX0_proves_157 : decode cX0_proves 157 = .ok (.iinc 5 1, 3) := dk_132 5 1 (dk_at dksX0_proves_6 19 rfl rfl)
theorem dX0_proves_160 : decode cX0_proves 160 = .ok (.goto (-66), 3) := dk_167 255 190 (dk_at dksX0_proves_7 0 rfl rfl)
theorem dX0_proves_163 : decode cX0_proves 163 = .ok (.iinc 2 1, 3) := dk_132 2 1 (dk_at dksX0_proves_7 3 rfl rfl)
theorem dX0_proves_166 : decode cX0_proves 166 = .ok (.goto (-149), 3) := dk_167 255 107 (dk_at dksX0_proves_7 6 rfl rfl)
theorem dX0_proves_169 : decode cX0_proves 169 = .ok (.iinc 1 1, 3) := dk_132 1 1 (dk_at dksX0_proves_7 9 rfl rfl)
theorem dX0_proves_172 : decode cX0_proves 172 = .ok (.goto (-170), 3) := dk_167 255 86 (dk_at dksX0_proves_7 12 rfl rfl)
theorem dX0_proves_175 : decode cX0_proves 175 = .ok (.return_, 1) := dk_177 (dk_at dksX0_proves_7 15 rfl rfl)
def dkwX0_proof_1 : List UInt8 := [180, 0, 58, 27, 46, 167, 0, 4, 2, 172]
abbrev dktX0_proof_1 : List UInt8 := dkwX0_proof_1 ++ []
def dkwX0_proof_0 : List UInt8 := [42, 182, 1, 34, 27, 3, 5, 184, 0, 3, 153, 0, 22, 42, 180, 0, 58, 3, 46, 2, 159, 0, 12, 42]
abbrev dktX0_proof_0 : List UInt8 := dkwX0_proof_0 ++ dktX0_proof_1
theorem dksX0_proof_0 : cX0_proof.data.toList.drop 0 = dktX0_proof_0 := by decide +kernel
theorem dksX0_proof_1 : cX0_proof.data.toList.drop 24 = dktX0_proof_1 := dk_seg dksX0_proof_0 24 rfl rfl
theorem dX0_proof_0 : decode cX0_proof 0 = .ok (.aload_n 0, 1) := dk_42 (dk_at dksX0_proof_0 0 rfl rfl)
theorem dX0_proof_1 : decode cX0_proof 1 = .ok (.invokevirtual 290, 3) := dk_182 1 34 (dk_at dksX0_proof_0 1 rfl rfl)
theorem dX0_proof_4 : decode cX0_proof 4 = .ok (.iload_n 1, 1) := dk_27 (dk_at dksX0_proof_0 4 rfl rfl)
theorem dX0_proof_5 : decode cX0_proof 5 = .ok (.iconst 0, 1) := dk_3 (dk_at dksX0_proof_0 5 rfl rfl)
theorem dX0_proof_6 : decode cX0_proof 6 = .ok (.iconst 2, 1) := dk_5 (dk_at dksX0_proof_0 6 rfl rfl)
theorem dX0_proof_7 : decode cX0_proof 7 = .ok (.invokestatic 3, 3) := dk_184 0 3 (dk_at dksX0_proof_0 7 rfl rfl)
theorem dX0_proof_10 : decode cX0_proof 10 = .ok (.ifCond .eq 22, 3) := dk_153 0 22 (dk_at dksX0_proof_0 10 rfl rfl)
theorem dX0_proof_13 : decode cX0_proof 13 = .ok (.aload_n 0, 1) := dk_42 (dk_at dksX0_proof_0 13 rfl rfl)
theorem dX0_proof_14 : decode cX0_proof 14 = .ok (.getfield 58, 3) := dk_180 0 58 (dk_at dksX0_proof_0 14 rfl rfl)
theorem dX0_proof_17 : decode cX0_proof 17 = .ok (.iconst 0, 1) := dk_3 (dk_at dksX0_proof_0 17 rfl rfl)
theorem dX0_proof_18 : decode cX0_proof 18 = .ok (.iaload, 1) := dk_46 (dk_at dksX0_proof_0 18 rfl rfl)
theorem dX0_proof_19 : decode cX0_proof 19 = .ok (.iconst (-1), 1) := dk_2 (dk_at dksX0_proof_0 19 rfl rfl)
theorem dX0_proof_20 : decode cX0_proof 20 = .ok (.if_icmp .eq 12, 3) := dk_159 0 12 (dk_at dksX0_proof_0 20 rfl rfl)
theorem dX0_proof_23 : decode cX0_proof 23 = .ok (.aload_n 0, 1) := dk_42 (dk_at dksX0_proof_0 23 rfl rfl)
theorem dX0_proof_24 : decode cX0_proof 24 = .ok (.getfield 58, 3) := dk_180 0 58 (dk_at dksX0_proof_1 0 rfl rfl)
theorem dX0_proof_27 : decode cX0_proof 27 = .ok (.iload_n 1, 1) := dk_27 (dk_at dksX0_proof_1 3 rfl rfl)
theorem dX0_proof_28 : decode cX0_proof 28 = .ok (.iaload, 1) := dk_46 (dk_at dksX0_proof_1 4 rfl rfl)
theorem dX0_proof_29 : decode cX0_proof 29 = .ok (.goto 4, 3) := dk_167 0 4 (dk_at dksX0_proof_1 5 rfl rfl)
theorem dX0_proof_32 : decode cX0_proof 32 = .ok (.iconst (-1), 1) := dk_2 (dk_at dksX0_proof_1 8 rfl rfl)
theorem dX0_proof_33 : decode cX0_proof 33 = .ok (.ireturn, 1) := dk_172 (dk_at dksX0_proof_1 9 rfl rfl)
def dkwX0_round_2 : List UInt8 := [167, 0, 20, 27, 5, 160, 0, 10, 42, 180, 1, 39, 167, 0, 7, 42, 180, 1, 42, 136, 172]
abbrev dktX0_round_2 : List UInt8 := dkwX0_round_2 ++ []
def dkwX0_round_1 : List UInt8 := [182, 1, 55, 27, 154, 0, 10, 42, 180, 1, 45, 167, 0, 32, 27, 4, 160, 0, 10, 42, 180, 1, 48]
abbrev dktX0_round_1 : List UInt8 := dkwX0_round_1 ++ dktX0_round_2
def dkwX0_round_0 : List UInt8 := [42, 180, 0, 33, 182, 0, 177, 154, 0, 12, 27, 3, 6, 184, 0, 3, 154, 0, 5, 2, 172, 42]
abbrev dktX0_round_0 : List UInt8 := dkwX0_round_0 ++ dktX0_round_1
theorem dksX0_round_0 : cX0_round.data.toList.drop 0 = dktX0_round_0 := by decide +kernel
theorem dksX0_round_1 : cX0_round.data.toList.drop 22 = dktX0_round_1 := dk_seg dksX0_round_0 22 rfl rfl
theorem dksX0_round_2 : cX0_round.data.toList.drop 45 = dktX0_round_2 := dk_seg dksX0_round_1 23 rfl rfl
theorem dX0_round_0 : decode cX0_round 0 = .ok (.aload_n 0, 1) := dk_42 (dk_at dksX0_round_0 0 rfl rfl)
theorem dX0_round_1 : decode cX0_round 1 = .ok (.getfield 33, 3) := dk_180 0 33 (dk_at dksX0_round_0 1 rfl rfl)
theorem dX0_round_4 : decode cX0_round 4 = .ok (.invokevirtual 177, 3) := dk_182 0 177 (dk_at dksX0_round_0 4 rfl rfl)
theorem dX0_round_7 : decode cX0_round 7 = .ok (.ifCond .ne 12, 3) := dk_154 0 12 (dk_at dksX0_round_0 7 rfl rfl)
theorem dX0_round_10 : decode cX0_round 10 = .ok (.iload_n 1, 1) := dk_27 (dk_at dksX0_round_0 10 rfl rfl)
theorem dX0_round_11 : decode cX0_round 11 = .ok (.iconst 0, 1) := dk_3 (dk_at dksX0_round_0 11 rfl rfl)
theorem dX0_round_12 : decode cX0_round 12 = .ok (.iconst 3, 1) := dk_6 (dk_at dksX0_round_0 12 rfl rfl)
theorem dX0_round_13 : decode cX0_round 13 = .ok (.invokestatic 3, 3) := dk_184 0 3 (dk_at dksX0_round_0 13 rfl rfl)
theorem dX0_round_16 : decode cX0_round 16 = .ok (.ifCond .ne 5, 3) := dk_154 0 5 (dk_at dksX0_round_0 16 rfl rfl)
theorem dX0_round_19 : decode cX0_round 19 = .ok (.iconst (-1), 1) := dk_2 (dk_at dksX0_round_0 19 rfl rfl)
theorem dX0_round_20 : decode cX0_round 20 = .ok (.ireturn, 1) := dk_172 (dk_at dksX0_round_0 20 rfl rfl)
theorem dX0_round_21 : decode cX0_round 21 = .ok (.aload_n 0, 1) := dk_42 (dk_at dksX0_round_0 21 rfl rfl)
theorem dX0_round_22 : decode cX0_round 22 = .ok (.invokevirtual 311, 3) := dk_182 1 55 (dk_at dksX0_round_1 0 rfl rfl)
theorem dX0_round_25 : decode cX0_round 25 = .ok (.iload_n 1, 1) := dk_27 (dk_at dksX0_round_1 3 rfl rfl)
theorem dX0_round_26 : decode cX0_round 26 = .ok (.ifCond .ne 10, 3) := dk_154 0 10 (dk_at dksX0_round_1 4 rfl rfl)
theorem dX0_round_29 : decode cX0_round 29 = .ok (.aload_n 0, 1) := dk_42 (dk_at dksX0_round_1 7 rfl rfl)
theorem dX0_round_30 : decode cX0_round 30 = .ok (.getfield 301, 3) := dk_180 1 45 (dk_at dksX0_round_1 8 rfl rfl)
theorem dX0_round_33 : decode cX0_round 33 = .ok (.goto 32, 3) := dk_167 0 32 (dk_at dksX0_round_1 11 rfl rfl)
theorem dX0_round_36 : decode cX0_round 36 = .ok (.iload_n 1, 1) := dk_27 (dk_at dksX0_round_1 14 rfl rfl)
theorem dX0_round_37 : decode cX0_round 37 = .ok (.iconst 1, 1) := dk_4 (dk_at dksX0_round_1 15 rfl rfl)
theorem dX0_round_38 : decode cX0_round 38 = .ok (.if_icmp .ne 10, 3) := dk_160 0 10 (dk_at dksX0_round_1 16 rfl rfl)
theorem dX0_round_41 : decode cX0_round 41 = .ok (.aload_n 0, 1) := dk_42 (dk_at dksX0_round_1 19 rfl rfl)
theorem dX0_round_42 : decode cX0_round 42 = .ok (.getfield 304, 3) := dk_180 1 48 (dk_at dksX0_round_1 20 rfl rfl)
theorem dX0_round_45 : decode cX0_round 45 = .ok (.goto 20, 3) := dk_167 0 20 (dk_at dksX0_round_2 0 rfl rfl)
theorem dX0_round_48 : decode cX0_round 48 = .ok (.iload_n 1, 1) := dk_27 (dk_at dksX0_round_2 3 rfl rfl)
theorem dX0_round_49 : decode cX0_round 49 = .ok (.iconst 2, 1) := dk_5 (dk_at dksX0_round_2 4 rfl rfl)
theorem dX0_round_50 : decode cX0_round 50 = .ok (.if_icmp .ne 10, 3) := dk_160 0 10 (dk_at dksX0_round_2 5 rfl rfl)
theorem dX0_round_53 : decode cX0_round 53 = .ok (.aload_n 0, 1) := dk_42 (dk_at dksX0_round_2 8 rfl rfl)
theorem dX0_round_54 : decode cX0_round 54 = .ok (.getfield 295, 3) := dk_180 1 39 (dk_at dksX0_round_2 9 rfl rfl)
theorem dX0_round_57 : decode cX0_round 57 = .ok (.goto 7, 3) := dk_167 0 7 (dk_at dksX0_round_2 12 rfl rfl)
theorem dX0_round_60 : decode cX0_round 60 = .ok (.aload_n 0, 1) := dk_42 (dk_at dksX0_round_2 15 rfl rfl)
theorem dX0_round_61 : decode cX0_round 61 = .ok (.getfield 298, 3) := dk_180 1 42 (dk_at dksX0_round_2 16 rfl rfl)
theorem dX0_round_64 : decode cX0_round 64 = .ok (.l2i, 1) := dk_136 (dk_at dksX0_round_2 19 rfl rfl)
theorem dX0_round_65 : decode cX0_round 65 = .ok (.ireturn, 1) := dk_172 (dk_at dksX0_round_2 20 rfl rfl)
def dkwX0_findRound_10 : List UInt8 := [180, 1, 39, 31, 109, 181, 1, 39, 42, 89, 180, 1, 42, 31, 109, 181, 1, 42, 177]
abbrev dktX0_findRound_10 : List UInt8 := dkwX0_findRound_10 ++ []
def dkwX0_findRound_9 : List UInt8 := [167, 255, 76, 132, 1, 1, 167, 255, 62, 42, 180, 1, 39, 42, 180, 1, 42, 184, 1, 51, 64, 42, 89]
abbrev dktX0_findRound_9 : List UInt8 := dkwX0_findRound_9 ++ dktX0_findRound_10
def dkwX0_findRound_8 : List UInt8 := [33, 181, 1, 39, 42, 22, 5, 181, 1, 42, 42, 27, 181, 1, 45, 42, 28, 181, 1, 48, 132, 2, 1]
abbrev dktX0_findRound_8 : List UInt8 := dkwX0_findRound_8 ++ dktX0_findRound_9
def dkwX0_findRound_7 : List UInt8 := [153, 0, 23, 33, 42, 180, 1, 42, 105, 42, 180, 1, 39, 22, 5, 105, 148, 155, 0, 6, 167, 0, 24, 42]
abbrev dktX0_findRound_7 : List UInt8 := dkwX0_findRound_7 ++ dktX0_findRound_8
def dkwX0_findRound_6 : List UInt8 := [22, 9, 22, 9, 105, 66, 22, 11, 55, 5, 132, 7, 1, 167, 255, 148, 42, 180, 1, 39, 20, 1, 37, 148]
abbrev dktX0_findRound_6 : List UInt8 := dkwX0_findRound_6 ++ dktX0_findRound_7
def dkwX0_findRound_5 : List UInt8 := [105, 97, 55, 11, 22, 9, 22, 9, 105, 22, 5, 105, 33, 22, 11, 105, 148, 157, 0, 6, 167, 0, 13]
abbrev dktX0_findRound_5 : List UInt8 := dkwX0_findRound_5 ++ dktX0_findRound_6
def dkwX0_findRound_4 : List UInt8 := [101, 55, 9, 25, 8, 180, 0, 240, 25, 8, 180, 0, 240, 105, 25, 8, 180, 0, 244, 25, 8, 180, 0, 244]
abbrev dktX0_findRound_4 : List UInt8 := dkwX0_findRound_4 ++ dktX0_findRound_5
def dkwX0_findRound_3 : List UInt8 := [58, 8, 25, 8, 180, 0, 240, 27, 133, 105, 25, 8, 180, 0, 244, 28, 133, 105, 97, 25, 8, 180, 0, 247]
abbrev dktX0_findRound_3 : List UInt8 := dkwX0_findRound_3 ++ dktX0_findRound_4
def dkwX0_findRound_2 : List UInt8 := [21, 7, 42, 180, 0, 52, 182, 0, 102, 162, 0, 102, 42, 180, 0, 52, 21, 7, 182, 0, 106, 192, 0, 215]
abbrev dktX0_findRound_2 : List UInt8 := dkwX0_findRound_2 ++ dktX0_findRound_3
def dkwX0_findRound_1 : List UInt8 := [3, 60, 27, 16, 100, 162, 0, 194, 3, 61, 28, 16, 100, 162, 0, 180, 9, 66, 10, 55, 5, 3, 54, 7]
abbrev dktX0_findRound_1 : List UInt8 := dkwX0_findRound_1 ++ dktX0_findRound_2
def dkwX0_findRound_0 : List UInt8 := [42, 180, 0, 99, 153, 0, 4, 177, 42, 182, 0, 236, 42, 4, 181, 0, 99, 42, 20, 1, 37, 181, 1, 39]
abbrev dktX0_findRound_0 : List UInt8 := dkwX0_findRound_0 ++ dktX0_findRound_1
theorem dksX0_findRound_0 : cX0_findRound.data.toList.drop 0 = dktX0_findRound_0 := by decide +kernel
theorem dksX0_findRound_1 : cX0_findRound.data.toList.drop 24 = dktX0_findRound_1 := dk_seg dksX0_findRound_0 24 rfl rfl
theorem dksX0_findRound_2 : cX0_findRound.data.toList.drop 48 = dktX0_findRound_2 := dk_seg dksX0_findRound_1 24 rfl rfl
theorem dksX0_findRound_3 : cX0_findRound.data.toList.drop 72 = dktX0_findRound_3 := dk_seg dksX0_findRound_2 24 rfl rfl
theorem dksX0_findRound_4 : cX0_findRound.data.toList.drop 96 = dktX0_findRound_4 := dk_seg dksX0_findRound_3 24 rfl rfl
theorem dksX0_findRound_5 : cX0_findRound.data.toList.drop 120 = dktX0_findRound_5 := dk_seg dksX0_findRound_4 24 rfl rfl
theorem dksX0_findRound_6 : cX0_findRound.data.toList.drop 143 = dktX0_findRound_6 := dk_seg dksX0_findRound_5 23 rfl rfl
theorem dksX0_findRound_7 : cX0_findRound.data.toList.drop 167 = dktX0_findRound_7 := dk_seg dksX0_findRound_6 24 rfl rfl
theorem dksX0_findRound_8 : cX0_findRound.data.toList.drop 191 = dktX0_findRound_8 := dk_seg dksX0_findRound_7 24 rfl rfl
theorem dksX0_findRound_9 : cX0_findRound.data.toList.drop 214 = dktX0_findRound_9 := dk_seg dksX0_findRound_8 23 rfl rfl
theorem dksX0_findRound_10 : cX0_findRound.data.toList.drop 237 = dktX0_findRound_10 := dk_seg dksX0_findRound_9 23 rfl rfl
theorem dX0_findRound_0 : decode cX0_findRound 0 = .ok (.aload_n 0, 1) := dk_42 (dk_at dksX0_findRound_0 0 rfl rfl)
theorem dX0_findRound_1 : decode cX0_findRound 1 = .ok (.getfield 99, 3) := dk_180 0 99 (dk_at dksX0_findRound_0 1 rfl rfl)
theorem dX0_findRound_4 : decode cX0_findRound 4 = .ok (.ifCond .eq 4, 3) := dk_153 0 4 (dk_at dksX0_findRound_0 4 rfl rfl)
theorem dX0_findRound_7 : decode cX0_findRound 7 = .ok (.return_, 1) := dk_177 (dk_at dksX0_findRound_0 7 rfl rfl)
theorem dX0_findRound_8 : decode cX0_findRound 8 = .ok (.aload_n 0, 1) := dk_42 (dk_at dksX0_findRound_0 8 rfl rfl)
theorem dX0_findRound_9 : decode cX0_findRound 9 = .ok (.invokevirtual 236, 3) := dk_182 0 236 (dk_at dksX0_findRound_0 9 rfl rfl)
theorem dX0_findRound_12 : decode cX0_findRound 12 = .ok (.aload_n 0, 1) := dk_42 (dk_at dksX0_findRound_0 12 rfl rfl)
theorem dX0_findRound_13 : decode cX0_findRound 13 = .ok (.iconst 1, 1) := dk_4 (dk_at dksX0_findRound_0 13 rfl rfl)
theorem dX0_findRound_14 : decode cX0_findRound 14 = .ok (.putfield 99, 3) := dk_181 0 99 (dk_at dksX0_findRound_0 14 rfl rfl)
theorem dX0_findRound_17 : decode cX0_findRound 17 = .ok (.aload_n 0, 1) := dk_42 (dk_at dksX0_findRound_0 17 rfl rfl)
theorem dX0_findRound_18 : decode cX0_findRound 18 = .ok (.ldc2_w 293, 3) := dk_20 1 37 (dk_at dksX0_findRound_0 18 rfl rfl)
theorem dX0_findRound_21 : decode cX0_findRound 21 = .ok (.putfield 295, 3) := dk_181 1 39 (dk_at dksX0_findRound_0 21 rfl rfl)
theorem dX0_findRound_24 : decode cX0_findRound 24 = .ok (.iconst 0, 1) := dk_3 (dk_at dksX0_findRound_1 0 rfl rfl)
theorem dX0_findRound_25 : decode cX0_findRound 25 = .ok (.istore_n 1, 1) := dk_60 (dk_at dksX0_findRound_1 1 rfl rfl)
theorem dX0_findRound_26 : decode cX0_findRound 26 = .ok (.iload_n 1, 1) := dk_27 (dk_at dksX0_findRound_1 2 rfl rfl)
theorem dX0_findRound_27 : decode cX0_findRound 27 = .ok (.bipush 100, 2) := dk_16 100 (dk_at dksX0_findRound_1 3 rfl rfl)
theorem dX0_findRound_29 : decode cX0_findRound 29 = .ok (.if_icmp .ge 194, 3) := dk_162 0 194 (dk_at dksX0_findRound_1 5 rfl rfl)
theorem dX0_findRound_32 : decode cX0_findRound 32 = .ok (.iconst 0, 1) := dk_3 (dk_at dksX0_findRound_1 8 rfl rfl)
theorem dX0_findRound_33 : decode cX0_findRound 33 = .ok (.istore_n 2, 1) := dk_61 (dk_at dksX0_findRound_1 9 rfl rfl)
theorem dX0_findRound_34 : decode cX0_findRound 34 = .ok (.iload_n 2, 1) := dk_28 (dk_at dksX0_findRound_1 10 rfl rfl)
theorem dX0_findRound_35 : decode cX0_findRound 35 = .ok (.bipush 100, 2) := dk_16 100 (dk_at dksX0_findRound_1 11 rfl rfl)
theorem dX0_findRound_37 : decode cX0_findRound 37 = .ok (.if_icmp .ge 180, 3) := dk_162 0 180 (dk_at dksX0_findRound_1 13 rfl rfl)
theorem dX0_findRound_40 : decode cX0_findRound 40 = .ok (.lconst 0, 1) := dk_9 (dk_at dksX0_findRound_1 16 rfl rfl)
theorem dX0_findRound_41 : decode cX0_findRound 41 = .ok (.lstore_n 3, 1) := dk_66 (dk_at dksX0_findRound_1 17 rfl rfl)
theorem dX0_findRound_42 : decode cX0_findRound 42 = .ok (.lconst 1, 1) := dk_10 (dk_at dksX0_findRound_1 18 rfl rfl)
theorem dX0_findRound_43 : decode cX0_findRound 43 = .ok (.lstore 5, 2) := dk_55 5 (dk_at dksX0_findRound_1 19 rfl rfl)
theorem dX0_findRound_45 : decode cX0_findRound 45 = .ok (.iconst 0, 1) := dk_3 (dk_at dksX0_findRound_1 21 rfl rfl)
theorem dX0_findRound_46 : decode cX0_findRound 46 = .ok (.istore 7, 2) := dk_54 7 (dk_at dksX0_findRound_1 22 rfl rfl)
theorem dX0_findRound_48 : decode cX0_findRound 48 = .ok (.iload 7, 2) := dk_21 7 (dk_at dksX0_findRound_2 0 rfl rfl)
theorem dX0_findRound_50 : decode cX0_findRound 50 = .ok (.aload_n 0, 1) := dk_42 (dk_at dksX0_findRound_2 2 rfl rfl)
theorem dX0_findRound_51 : decode cX0_findRound 51 = .ok (.getfield 52, 3) := dk_180 0 52 (dk_at dksX0_findRound_2 3 rfl rfl)
theorem dX0_findRound_54 : decode cX0_findRound 54 = .ok (.invokevirtual 102, 3) := dk_182 0 102 (dk_at dksX0_findRound_2 6 rfl rfl)
theorem dX0_findRound_57 : decode cX0_findRound 57 = .ok (.if_icmp .ge 102, 3) := dk_162 0 102 (dk_at dksX0_findRound_2 9 rfl rfl)
theorem dX0_findRound_60 : decode cX0_findRound 60 = .ok (.aload_n 0, 1) := dk_42 (dk_at dksX0_findRound_2 12 rfl rfl)
theorem dX0_findRound_61 : decode cX0_findRound 61 = .ok (.getfield 52, 3) := dk_180 0 52 (dk_at dksX0_findRound_2 13 rfl rfl)
theorem dX0_findRound_64 : decode cX0_findRound 64 = .ok (.iload 7, 2) := dk_21 7 (dk_at dksX0_findRound_2 16 rfl rfl)
theorem dX0_findRound_66 : decode cX0_findRound 66 = .ok (.invokevirtual 106, 3) := dk_182 0 106 (dk_at dksX0_findRound_2 18 rfl rfl)
theorem dX0_findRound_69 : decode cX0_findRound 69 = .ok (.checkcast 215, 3) := dk_192 0 215 (dk_at dksX0_findRound_2 21 rfl rfl)
theorem dX0_findRound_72 : decode cX0_findRound 72 = .ok (.astore 8, 2) := dk_58 8 (dk_at dksX0_findRound_3 0 rfl rfl)
theorem dX0_findRound_74 : decode cX0_findRound 74 = .ok (.aload 8, 2) := dk_25 8 (dk_at dksX0_findRound_3 2 rfl rfl)
theorem dX0_findRound_76 : decode cX0_findRound 76 = .ok (.getfield 240, 3) := dk_180 0 240 (dk_at dksX0_findRound_3 4 rfl rfl)
theorem dX0_findRound_79 : decode cX0_findRound 79 = .ok (.iload_n 1, 1) := dk_27 (dk_at dksX0_findRound_3 7 rfl rfl)
theorem dX0_findRound_80 : decode cX0_findRound 80 = .ok (.i2l, 1) := dk_133 (dk_at dksX0_findRound_3 8 rfl rfl)
theorem dX0_findRound_81 : decode cX0_findRound 81 = .ok (.lmul, 1) := dk_105 (dk_at dksX0_findRound_3 9 rfl rfl)
theorem dX0_findRound_82 : decode cX0_findRound 82 = .ok (.aload 8, 2) := dk_25 8 (dk_at dksX0_findRound_3 10 rfl rfl)
theorem dX0_findRound_84 : decode cX0_findRound 84 = .ok (.getfield 244, 3) := dk_180 0 244 (dk_at dksX0_findRound_3 12 rfl rfl)
theorem dX0_findRound_87 : decode cX0_findRound 87 = .ok (.iload_n 2, 1) := dk_28 (dk_at dksX0_findRound_3 15 rfl rfl)
theorem dX0_findRound_88 : decode cX0_findRound 88 = .ok (.i2l, 1) := dk_133 (dk_at dksX0_findRound_3 16 rfl rfl)
theorem dX0_findRound_89 : decode cX0_findRound 89 = .ok (.lmul, 1) := dk_105 (dk_at dksX0_findRound_3 17 rfl rfl)
theorem dX0_findRound_90 : decode cX0_findRound 90 = .ok (.ladd, 1) := dk_97 (dk_at dksX0_findRound_3 18 rfl rfl)
theorem dX0_findRound_91 : decode cX0_findRound 91 = .ok (.aload 8, 2) := dk_25 8 (dk_at dksX0_findRound_3 19 rfl rfl)
theorem dX0_findRound_93 : decode cX0_findRound 93 = .ok (.getfield 247, 3) := dk_180 0 247 (dk_at dksX0_findRound_3 21 rfl rfl)
theorem dX0_findRound_96 : decode cX0_findRound 96 = .ok (.lsub, 1) := dk_101 (dk_at dksX0_findRound_4 0 rfl rfl)
theorem dX0_findRound_97 : decode cX0_findRound 97 = .ok (.lstore 9, 2) := dk_55 9 (dk_at dksX0_findRound_4 1 rfl rfl)
theorem dX0_findRound_99 : decode cX0_findRound 99 = .ok (.aload 8, 2) := dk_25 8 (dk_at dksX0_findRound_4 3 rfl rfl)
theorem dX0_findRound_101 : decode cX0_findRound 101 = .ok (.getfield 240, 3) := dk_180 0 240 (dk_at dksX0_findRound_4 5 rfl rfl)
theorem dX0_findRound_104 : decode cX0_findRound 104 = .ok (.aload 8, 2) := dk_25 8 (dk_at dksX0_findRound_4 8 rfl rfl)
theorem dX0_findRound_106 : decode cX0_findRound 106 = .ok (.getfield 240, 3) := dk_180 0 240 (dk_at dksX0_findRound_4 10 rfl rfl)
theorem dX0_findRound_109 : decode cX0_findRound 109 = .ok (.lmul, 1) := dk_105 (dk_at dksX0_findRound_4 13 rfl rfl)
theorem dX0_findRound_110 : decode cX0_findRound 110 = .ok (.aload 8, 2) := dk_25 8 (dk_at dksX0_findRound_4 14 rfl rfl)
theorem dX0_findRound_112 : decode cX0_findRound 112 = .ok (.getfield 244, 3) := dk_180 0 244 (dk_at dksX0_findRound_4 16 rfl rfl)
theorem dX0_findRound_115 : decode cX0_findRound 115 = .ok (.aload 8, 2) := dk_25 8 (dk_at dksX0_findRound_4 19 rfl rfl)
theorem dX0_findRound_117 : decode cX0_findRound 117 = .ok (.getfield 244, 3) := dk_180 0 244 (dk_at dksX0_findRound_4 21 rfl rfl)
theorem dX0_findRound_120 : decode cX0_findRound 120 = .ok (.lmul, 1) := dk_105 (dk_at dksX0_findRound_5 0 rfl rfl)
theorem dX0_findRound_121 : decode cX0_findRound 121 = .ok (.ladd, 1) := dk_97 (dk_at dksX0_findRound_5 1 rfl rfl)
theorem dX0_findRound_122 : decode cX0_findRound 122 = .ok (.lstore 11, 2) := dk_55 11 (dk_at dksX0_findRound_5 2 rfl rfl)
theorem dX0_findRound_124 : decode cX0_findRound 124 = .ok (.lload 9, 2) := dk_22 9 (dk_at dksX0_findRound_5 4 rfl rfl)
theorem dX0_findRound_126 : decode cX0_findRound 126 = .ok (.lload 9, 2) := dk_22 9 (dk_at dksX0_findRound_5 6 rfl rfl)
theorem dX0_findRound_128 : decode cX0_findRound 128 = .ok (.lmul, 1) := dk_105 (dk_at dksX0_findRound_5 8 rfl rfl)
theorem dX0_findRound_129 : decode cX0_findRound 129 = .ok (.lload 5, 2) := dk_22 5 (dk_at dksX0_findRound_5 9 rfl rfl)
theorem dX0_findRound_131 : decode cX0_findRound 131 = .ok (.lmul, 1) := dk_105 (dk_at dksX0_findRound_5 11 rfl rfl)
theorem dX0_findRound_132 : decode cX0_findRound 132 = .ok (.lload_n 3, 1) := dk_33 (dk_at dksX0_findRound_5 12 rfl rfl)
theorem dX0_findRound_133 : decode cX0_findRound 133 = .ok (.lload 11, 2) := dk_22 11 (dk_at dksX0_findRound_5 13 rfl rfl)
theorem dX0_findRound_135 : decode cX0_findRound 135 = .ok (.lmul, 1) := dk_105 (dk_at dksX0_findRound_5 15 rfl rfl)
theorem dX0_findRound_136 : decode cX0_findRound 136 = .ok (.lcmp, 1) := dk_148 (dk_at dksX0_findRound_5 16 rfl rfl)
theorem dX0_findRound_137 : decode cX0_findRound 137 = .ok (.ifCond .gt 6, 3) := dk_157 0 6 (dk_at dksX0_findRound_5 17 rfl rfl)
theorem dX0_findRound_140 : decode cX0_findRound 140 = .ok (.goto 13, 3) := dk_167 0 13 (dk_at dksX0_findRound_5 20 rfl rfl)
theorem dX0_findRound_143 : decode cX0_findRound 143 = .ok (.lload 9, 2) := dk_22 9 (dk_at dksX0_findRound_6 0 rfl rfl)
theorem dX0_findRound_145 : decode cX0_findRound 145 = .ok (.lload 9, 2) := dk_22 9 (dk_at dksX0_findRound_6 2 rfl rfl)
theorem dX0_findRound_147 : decode cX0_findRound 147 = .ok (.lmul, 1) := dk_105 (dk_at dksX0_findRound_6 4 rfl rfl)
theorem dX0_findRound_148 : decode cX0_findRound 148 = .ok (.lstore_n 3, 1) := dk_66 (dk_at dksX0_findRound_6 5 rfl rfl)
theorem dX0_findRound_149 : decode cX0_findRound 149 = .ok (.lload 11, 2) := dk_22 11 (dk_at dksX0_findRound_6 6 rfl rfl)
theorem dX0_findRound_151 : decode cX0_findRound 151 = .ok (.lstore 5, 2) := dk_55 5 (dk_at dksX0_findRound_6 8 rfl rfl)
theorem dX0_findRound_153 : decode cX0_findRound 153 = .ok (.iinc 7 1, 3) := dk_132 7 1 (dk_at dksX0_findRound_6 10 rfl rfl)
theorem dX0_findRound_156 : decode cX0_findRound 156 = .ok (.goto (-108), 3) := dk_167 255 148 (dk_at dksX0_findRound_6 13 rfl rfl)
theorem dX0_findRound_159 : decode cX0_findRound 159 = .ok (.aload_n 0, 1) := dk_42 (dk_at dksX0_findRound_6 16 rfl rfl)
theorem dX0_findRound_160 : decode cX0_findRound 160 = .ok (.getfield 295, 3) := dk_180 1 39 (dk_at dksX0_findRound_6 17 rfl rfl)
theorem dX0_findRound_163 : decode cX0_findRound 163 = .ok (.ldc2_w 293, 3) := dk_20 1 37 (dk_at dksX0_findRound_6 20 rfl rfl)
theorem dX0_findRound_166 : decode cX0_findRound 166 = .ok (.lcmp, 1) := dk_148 (dk_at dksX0_findRound_6 23 rfl rfl)
theorem dX0_findRound_167 : decode cX0_findRound 167 = .ok (.ifCond .eq 23, 3) := dk_153 0 23 (dk_at dksX0_findRound_7 0 rfl rfl)
theorem dX0_findRound_170 : decode cX0_findRound 170 = .ok (.lload_n 3, 1) := dk_33 (dk_at dksX0_findRound_7 3 rfl rfl)
theorem dX0_findRound_171 : decode cX0_findRound 171 = .ok (.aload_n 0, 1) := dk_42 (dk_at dksX0_findRound_7 4 rfl rfl)
theorem dX0_findRound_172 : decode cX0_findRound 172 = .ok (.getfield 298, 3) := dk_180 1 42 (dk_at dksX0_findRound_7 5 rfl rfl)
theorem dX0_findRound_175 : decode cX0_findRound 175 = .ok (.lmul, 1) := dk_105 (dk_at dksX0_findRound_7 8 rfl rfl)
theorem dX0_findRound_176 : decode cX0_findRound 176 = .ok (.aload_n 0, 1) := dk_42 (dk_at dksX0_findRound_7 9 rfl rfl)
theorem dX0_findRound_177 : decode cX0_findRound 177 = .ok (.getfield 295, 3) := dk_180 1 39 (dk_at dksX0_findRound_7 10 rfl rfl)
theorem dX0_findRound_180 : decode cX0_findRound 180 = .ok (.lload 5, 2) := dk_22 5 (dk_at dksX0_findRound_7 13 rfl rfl)
theorem dX0_findRound_182 : decode cX0_findRound 182 = .ok (.lmul, 1) := dk_105 (dk_at dksX0_findRound_7 15 rfl rfl)
theorem dX0_findRound_183 : decode cX0_findRound 183 = .ok (.lcmp, 1) := dk_148 (dk_at dksX0_findRound_7 16 rfl rfl)
theorem dX0_findRound_184 : decode cX0_findRound 184 = .ok (.ifCond .lt 6, 3) := dk_155 0 6 (dk_at dksX0_findRound_7 17 rfl rfl)
theorem dX0_findRound_187 : decode cX0_findRound 187 = .ok (.goto 24, 3) := dk_167 0 24 (dk_at dksX0_findRound_7 20 rfl rfl)
theorem dX0_findRound_190 : decode cX0_findRound 190 = .ok (.aload_n 0, 1) := dk_42 (dk_at dksX0_findRound_7 23 rfl rfl)
theorem dX0_findRound_191 : decode cX0_findRound 191 = .ok (.lload_n 3, 1) := dk_33 (dk_at dksX0_findRound_8 0 rfl rfl)
theorem dX0_findRound_192 : decode cX0_findRound 192 = .ok (.putfield 295, 3) := dk_181 1 39 (dk_at dksX0_findRound_8 1 rfl rfl)
theorem dX0_findRound_195 : decode cX0_findRound 195 = .ok (.aload_n 0, 1) := dk_42 (dk_at dksX0_findRound_8 4 rfl rfl)
theorem dX0_findRound_196 : decode cX0_findRound 196 = .ok (.lload 5, 2) := dk_22 5 (dk_at dksX0_findRound_8 5 rfl rfl)
theorem dX0_findRound_198 : decode cX0_findRound 198 = .ok (.putfield 298, 3) := dk_181 1 42 (dk_at dksX0_findRound_8 7 rfl rfl)
theorem dX0_findRound_201 : decode cX0_findRound 201 = .ok (.aload_n 0, 1) := dk_42 (dk_at dksX0_findRound_8 10 rfl rfl)
theorem dX0_findRound_202 : decode cX0_findRound 202 = .ok (.iload_n 1, 1) := dk_27 (dk_at dksX0_findRound_8 11 rfl rfl)
theorem dX0_findRound_203 : decode cX0_findRound 203 = .ok (.putfield 301, 3) := dk_181 1 45 (dk_at dksX0_findRound_8 12 rfl rfl)
theorem dX0_findRound_206 : decode cX0_findRound 206 = .ok (.aload_n 0, 1) := dk_42 (dk_at dksX0_findRound_8 15 rfl rfl)
theorem dX0_findRound_207 : decode cX0_findRound 207 = .ok (.iload_n 2, 1) := dk_28 (dk_at dksX0_findRound_8 16 rfl rfl)
theorem dX0_findRound_208 : decode cX0_findRound 208 = .ok (.putfield 304, 3) := dk_181 1 48 (dk_at dksX0_findRound_8 17 rfl rfl)
theorem dX0_findRound_211 : decode cX0_findRound 211 = .ok (.iinc 2 1, 3) := dk_132 2 1 (dk_at dksX0_findRound_8 20 rfl rfl)
theorem dX0_findRound_214 : decode cX0_findRound 214 = .ok (.goto (-180), 3) := dk_167 255 76 (dk_at dksX0_findRound_9 0 rfl rfl)
theorem dX0_findRound_217 : decode cX0_findRound 217 = .ok (.iinc 1 1, 3) := dk_132 1 1 (dk_at dksX0_findRound_9 3 rfl rfl)
theorem dX0_findRound_220 : decode cX0_findRound 220 = .ok (.goto (-194), 3) := dk_167 255 62 (dk_at dksX0_findRound_9 6 rfl rfl)
theorem dX0_findRound_223 : decode cX0_findRound 223 = .ok (.aload_n 0, 1) := dk_42 (dk_at dksX0_findRound_9 9 rfl rfl)
theorem dX0_findRound_224 : decode cX0_findRound 224 = .ok (.getfield 295, 3) := dk_180 1 39 (dk_at dksX0_findRound_9 10 rfl rfl)
theorem dX0_findRound_227 : decode cX0_findRound 227 = .ok (.aload_n 0, 1) := dk_42 (dk_at dksX0_findRound_9 13 rfl rfl)
theorem dX0_findRound_228 : decode cX0_findRound 228 = .ok (.getfield 298, 3) := dk_180 1 42 (dk_at dksX0_findRound_9 14 rfl rfl)
theorem dX0_findRound_231 : decode cX0_findRound 231 = .ok (.invokestatic 307, 3) := dk_184 1 51 (dk_at dksX0_findRound_9 17 rfl rfl)
theorem dX0_findRound_234 : decode cX0_findRound 234 = .ok (.lstore_n 1, 1) := dk_64 (dk_at dksX0_findRound_9 20 rfl rfl)
theorem dX0_findRound_235 : decode cX0_findRound 235 = .ok (.aload_n 0, 1) := dk_42 (dk_at dksX0_findRound_9 21 rfl rfl)
theorem dX0_findRound_236 : decode cX0_findRound 236 = .ok (.dup, 1) := dk_89 (dk_at dksX0_findRound_9 22 rfl rfl)
theorem dX0_findRound_237 : decode cX0_findRound 237 = .ok (.getfield 295, 3) := dk_180 1 39 (dk_at dksX0_findRound_10 0 rfl rfl)
theorem dX0_findRound_240 : decode cX0_findRound 240 = .ok (.lload_n 1, 1) := dk_31 (dk_at dksX0_findRound_10 3 rfl rfl)
theorem dX0_findRound_241 : decode cX0_findRound 241 = .ok (.ldiv, 1) := dk_109 (dk_at dksX0_findRound_10 4 rfl rfl)
theorem dX0_findRound_242 : decode cX0_findRound 242 = .ok (.putfield 295, 3) := dk_181 1 39 (dk_at dksX0_findRound_10 5 rfl rfl)
theorem dX0_findRound_245 : decode cX0_findRound 245 = .ok (.aload_n 0, 1) := dk_42 (dk_at dksX0_findRound_10 8 rfl rfl)
theorem dX0_findRound_246 : decode cX0_findRound 246 = .ok (.dup, 1) := dk_89 (dk_at dksX0_findRound_10 9 rfl rfl)
theorem dX0_findRound_247 : decode cX0_findRound 247 = .ok (.getfield 298, 3) := dk_180 1 42 (dk_at dksX0_findRound_10 10 rfl rfl)
theorem dX0_findRound_250 : decode cX0_findRound 250 = .ok (.lload_n 1, 1) := dk_31 (dk_at dksX0_findRound_10 13 rfl rfl)
theorem dX0_findRound_251 : decode cX0_findRound 251 = .ok (.ldiv, 1) := dk_109 (dk_at dksX0_findRound_10 14 rfl rfl)
theorem dX0_findRound_252 : decode cX0_findRound 252 = .ok (.putfield 298, 3) := dk_181 1 42 (dk_at dksX0_findRound_10 15 rfl rfl)
theorem dX0_findRound_255 : decode cX0_findRound 255 = .ok (.return_, 1) := dk_177 (dk_at dksX0_findRound_10 18 rfl rfl)
def dkwX0_winSet_2 : List UInt8 := [180, 1, 61, 172]
abbrev dktX0_winSet_2 : List UInt8 := dkwX0_winSet_2 ++ []
def dkwX0_winSet_1 : List UInt8 := [154, 0, 5, 2, 172, 42, 27, 28, 182, 1, 71, 29, 154, 0, 10, 42, 180, 1, 58, 167, 0, 7, 42]
abbrev dktX0_winSet_1 : List UInt8 := dkwX0_winSet_1 ++ dktX0_winSet_2
def dkwX0_winSet_0 : List UInt8 := [42, 180, 0, 33, 182, 0, 177, 154, 0, 20, 27, 28, 184, 0, 181, 153, 0, 12, 29, 3, 4, 184, 0, 3]
abbrev dktX0_winSet_0 : List UInt8 := dkwX0_winSet_0 ++ dktX0_winSet_1
theorem dksX0_winSet_0 : cX0_winSet.data.toList.drop 0 = dktX0_winSet_0 := by decide +kernel
theorem dksX0_winSet_1 : cX0_winSet.data.toList.drop 24 = dktX0_winSet_1 := dk_seg dksX0_winSet_0 24 rfl rfl
theorem dksX0_winSet_2 : cX0_winSet.data.toList.drop 47 = dktX0_winSet_2 := dk_seg dksX0_winSet_1 23 rfl rfl
theorem dX0_winSet_0 : decode cX0_winSet 0 = .ok (.aload_n 0, 1) := dk_42 (dk_at dksX0_winSet_0 0 rfl rfl)
theorem dX0_winSet_1 : decode cX0_winSet 1 = .ok (.getfield 33, 3) := dk_180 0 33 (dk_at dksX0_winSet_0 1 rfl rfl)
theorem dX0_winSet_4 : decode cX0_winSet 4 = .ok (.invokevirtual 177, 3) := dk_182 0 177 (dk_at dksX0_winSet_0 4 rfl rfl)
theorem dX0_winSet_7 : decode cX0_winSet 7 = .ok (.ifCond .ne 20, 3) := dk_154 0 20 (dk_at dksX0_winSet_0 7 rfl rfl)
theorem dX0_winSet_10 : decode cX0_winSet 10 = .ok (.iload_n 1, 1) := dk_27 (dk_at dksX0_winSet_0 10 rfl rfl)
theorem dX0_winSet_11 : decode cX0_winSet 11 = .ok (.iload_n 2, 1) := dk_28 (dk_at dksX0_winSet_0 11 rfl rfl)
theorem dX0_winSet_12 : decode cX0_winSet 12 = .ok (.invokestatic 181, 3) := dk_184 0 181 (dk_at dksX0_winSet_0 12 rfl rfl)
theorem dX0_winSet_15 : decode cX0_winSet 15 = .ok (.ifCond .eq 12, 3) := dk_153 0 12 (dk_at dksX0_winSet_0 15 rfl rfl)
theorem dX0_winSet_18 : decode cX0_winSet 18 = .ok (.iload_n 3, 1) := dk_29 (dk_at dksX0_winSet_0 18 rfl rfl)
theorem dX0_winSet_19 : decode cX0_winSet 19 = .ok (.iconst 0, 1) := dk_3 (dk_at dksX0_winSet_0 19 rfl rfl)
theorem dX0_winSet_20 : decode cX0_winSet 20 = .ok (.iconst 1, 1) := dk_4 (dk_at dksX0_winSet_0 20 rfl rfl)
theorem dX0_winSet_21 : decode cX0_winSet 21 = .ok (.invokestatic 3, 3) := dk_184 0 3 (dk_at dksX0_winSet_0 21 rfl rfl)
theorem dX0_winSet_24 : decode cX0_winSet 24 = .ok (.ifCond .ne 5, 3) := dk_154 0 5 (dk_at dksX0_winSet_1 0 rfl rfl)
theorem dX0_winSet_27 : decode cX0_winSet 27 = .ok (.iconst (-1), 1) := dk_2 (dk_at dksX0_winSet_1 3 rfl rfl)
theorem dX0_winSet_28 : decode cX0_winSet 28 = .ok (.ireturn, 1) := dk_172 (dk_at dksX0_winSet_1 4 rfl rfl)
theorem dX0_winSet_29 : decode cX0_winSet 29 = .ok (.aload_n 0, 1) := dk_42 (dk_at dksX0_winSet_1 5 rfl rfl)
theorem dX0_winSet_30 : decode cX0_winSet 30 = .ok (.iload_n 1, 1) := dk_27 (dk_at dksX0_winSet_1 6 rfl rfl)
theorem dX0_winSet_31 : decode cX0_winSet 31 = .ok (.iload_n 2, 1) := dk_28 (dk_at dksX0_winSet_1 7 rfl rfl)
theorem dX0_winSet_32 : decode cX0_winSet 32 = .ok (.invokevirtual 327, 3) := dk_182 1 71 (dk_at dksX0_winSet_1 8 rfl rfl)
theorem dX0_winSet_35 : decode cX0_winSet 35 = .ok (.iload_n 3, 1) := dk_29 (dk_at dksX0_winSet_1 11 rfl rfl)
theorem dX0_winSet_36 : decode cX0_winSet 36 = .ok (.ifCond .ne 10, 3) := dk_154 0 10 (dk_at dksX0_winSet_1 12 rfl rfl)
theorem dX0_winSet_39 : decode cX0_winSet 39 = .ok (.aload_n 0, 1) := dk_42 (dk_at dksX0_winSet_1 15 rfl rfl)
theorem dX0_winSet_40 : decode cX0_winSet 40 = .ok (.getfield 314, 3) := dk_180 1 58 (dk_at dksX0_winSet_1 16 rfl rfl)
theorem dX0_winSet_43 : decode cX0_winSet 43 = .ok (.goto 7, 3) := dk_167 0 7 (dk_at dksX0_winSet_1 19 rfl rfl)
theorem dX0_winSet_46 : decode cX0_winSet 46 = .ok (.aload_n 0, 1) := dk_42 (dk_at dksX0_winSet_1 22 rfl rfl)
theorem dX0_winSet_47 : decode cX0_winSet 47 = .ok (.getfield 317, 3) := dk_180 1 61 (dk_at dksX0_winSet_2 0 rfl rfl)
theorem dX0_winSet_50 : decode cX0_winSet 50 = .ok (.ireturn, 1) := dk_172 (dk_at dksX0_winSet_2 3 rfl rfl)
def dkwX0_findPieces_4 : List UInt8 := [160, 0, 8, 42, 29, 182, 1, 64, 132, 3, 1, 167, 255, 230, 177]
abbrev dktX0_findPieces_4 : List UInt8 := dkwX0_findPieces_4 ++ []
def dkwX0_findPieces_3 : List UInt8 := [132, 3, 1, 167, 255, 194, 3, 62, 29, 17, 39, 16, 162, 0, 25, 42, 180, 0, 65, 29, 46, 16, 254]
abbrev dktX0_findPieces_3 : List UInt8 := dkwX0_findPieces_3 ++ dktX0_findPieces_4
def dkwX0_findPieces_2 : List UInt8 := [167, 0, 4, 2, 79, 42, 89, 180, 1, 58, 21, 4, 153, 0, 7, 4, 167, 0, 4, 3, 96, 181, 1, 58]
abbrev dktX0_findPieces_2 : List UInt8 := dkwX0_findPieces_2 ++ dktX0_findPieces_3
def dkwX0_findPieces_1 : List UInt8 := [16, 100, 108, 29, 16, 100, 112, 182, 0, 202, 54, 4, 42, 180, 0, 65, 29, 21, 4, 153, 0, 8, 16, 254]
abbrev dktX0_findPieces_1 : List UInt8 := dkwX0_findPieces_1 ++ dktX0_findPieces_2
def dkwX0_findPieces_0 : List UInt8 := [42, 3, 181, 1, 58, 42, 3, 181, 1, 61, 3, 62, 29, 17, 39, 16, 162, 0, 61, 42, 27, 28, 29]
abbrev dktX0_findPieces_0 : List UInt8 := dkwX0_findPieces_0 ++ dktX0_findPieces_1
theorem dksX0_findPieces_0 : cX0_findPieces.data.toList.drop 0 = dktX0_findPieces_0 := by decide +kernel
theorem dksX0_findPieces_1 : cX0_findPieces.data.toList.drop 23 = dktX0_findPieces_1 := dk_seg dksX0_findPieces_0 23 rfl rfl
theorem dksX0_findPieces_2 : cX0_findPieces.data.toList.drop 47 = dktX0_findPieces_2 := dk_seg dksX0_findPieces_1 24 rfl rfl
theorem dksX0_findPieces_3 : cX0_findPieces.data.toList.drop 71 = dktX0_findPieces_3 := dk_seg dksX0_findPieces_2 24 rfl rfl
theorem dksX0_findPieces_4 : cX0_findPieces.data.toList.drop 94 = dktX0_findPieces_4 := dk_seg dksX0_findPieces_3 23 rfl rfl
theorem dX0_findPieces_0 : decode cX0_findPieces 0 = .ok (.aload_n 0, 1) := dk_42 (dk_at dksX0_findPieces_0 0 rfl rfl)
theorem dX0_findPieces_1 : decode cX0_findPieces 1 = .ok (.iconst 0, 1) := dk_3 (dk_at dksX0_findPieces_0 1 rfl rfl)
theorem dX0_findPieces_2 : decode cX0_findPieces 2 = .ok (.putfield 314, 3) := dk_181 1 58 (dk_at dksX0_findPieces_0 2 rfl rfl)
theorem dX0_findPieces_5 : decode cX0_findPieces 5 = .ok (.aload_n 0, 1) := dk_42 (dk_at dksX0_findPieces_0 5 rfl rfl)
theorem dX0_findPieces_6 : decode cX0_findPieces 6 = .ok (.iconst 0, 1) := dk_3 (dk_at dksX0_findPieces_0 6 rfl rfl)
theorem dX0_findPieces_7 : decode cX0_findPieces 7 = .ok (.putfield 317, 3) := dk_181 1 61 (dk_at dksX0_findPieces_0 7 rfl rfl)
theorem dX0_findPieces_10 : decode cX0_findPieces 10 = .ok (.iconst 0, 1) := dk_3 (dk_at dksX0_findPieces_0 10 rfl rfl)
theorem dX0_findPieces_11 : decode cX0_findPieces 11 = .ok (.istore_n 3, 1) := dk_62 (dk_at dksX0_findPieces_0 11 rfl rfl)
theorem dX0_findPieces_12 : decode cX0_findPieces 12 = .ok (.iload_n 3, 1) := dk_29 (dk_at dksX0_findPieces_0 12 rfl rfl)
theorem dX0_findPieces_13 : decode cX0_findPieces 13 = .ok (.sipush 10000, 3) := dk_17 39 16 (dk_at dksX0_findPieces_0 13 rfl rfl)
theorem dX0_findPieces_16 : decode cX0_findPieces 16 = .ok (.if_icmp .ge 61, 3) := dk_162 0 61 (dk_at dksX0_findPieces_0 16 rfl rfl)
theorem dX0_findPieces_19 : decode cX0_findPieces 19 = .ok (.aload_n 0, 1) := dk_42 (dk_at dksX0_findPieces_0 19 rfl rfl)
theorem dX0_findPieces_20 : decode cX0_findPieces 20 = .ok (.iload_n 1, 1) := dk_27 (dk_at dksX0_findPieces_0 20 rfl rfl)
theorem dX0_findPieces_21 : decode cX0_findPieces 21 = .ok (.iload_n 2, 1) := dk_28 (dk_at dksX0_findPieces_0 21 rfl rfl)
theorem dX0_findPieces_22 : decode cX0_findPieces 22 = .ok (.iload_n 3, 1) := dk_29 (dk_at dksX0_findPieces_0 22 rfl rfl)
theorem dX0_findPieces_23 : decode cX0_findPieces 23 = .ok (.bipush 100, 2) := dk_16 100 (dk_at dksX0_findPieces_1 0 rfl rfl)
theorem dX0_findPieces_25 : decode cX0_findPieces 25 = .ok (.idiv, 1) := dk_108 (dk_at dksX0_findPieces_1 2 rfl rfl)
theorem dX0_findPieces_26 : decode cX0_findPieces 26 = .ok (.iload_n 3, 1) := dk_29 (dk_at dksX0_findPieces_1 3 rfl rfl)
theorem dX0_findPieces_27 : decode cX0_findPieces 27 = .ok (.bipush 100, 2) := dk_16 100 (dk_at dksX0_findPieces_1 4 rfl rfl)
theorem dX0_findPieces_29 : decode cX0_findPieces 29 = .ok (.irem, 1) := dk_112 (dk_at dksX0_findPieces_1 6 rfl rfl)
theorem dX0_findPieces_30 : decode cX0_findPieces 30 = .ok (.invokevirtual 202, 3) := dk_182 0 202 (dk_at dksX0_findPieces_1 7 rfl rfl)
theorem dX0_findPieces_33 : decode cX0_findPieces 33 = .ok (.istore 4, 2) := dk_54 4 (dk_at dksX0_findPieces_1 10 rfl rfl)
theorem dX0_findPieces_35 : decode cX0_findPieces 35 = .ok (.aload_n 0, 1) := dk_42 (dk_at dksX0_findPieces_1 12 rfl rfl)
theorem dX0_findPieces_36 : decode cX0_findPieces 36 = .ok (.getfield 65, 3) := dk_180 0 65 (dk_at dksX0_findPieces_1 13 rfl rfl)
theorem dX0_findPieces_39 : decode cX0_findPieces 39 = .ok (.iload_n 3, 1) := dk_29 (dk_at dksX0_findPieces_1 16 rfl rfl)
theorem dX0_findPieces_40 : decode cX0_findPieces 40 = .ok (.iload 4, 2) := dk_21 4 (dk_at dksX0_findPieces_1 17 rfl rfl)
theorem dX0_findPieces_42 : decode cX0_findPieces 42 = .ok (.ifCond .eq 8, 3) := dk_153 0 8 (dk_at dksX0_findPieces_1 19 rfl rfl)
theorem dX0_findPieces_45 : decode cX0_findPieces 45 = .ok (.bipush (-2), 2) := dk_16 254 (dk_at dksX0_findPieces_1 22 rfl rfl)
theorem dX0_findPieces_47 : decode cX0_findPieces 47 = .ok (.goto 4, 3) := dk_167 0 4 (dk_at dksX0_findPieces_2 0 rfl rfl)
theorem dX0_findPieces_50 : decode cX0_findPieces 50 = .ok (.iconst (-1), 1) := dk_2 (dk_at dksX0_findPieces_2 3 rfl rfl)
theorem dX0_findPieces_51 : decode cX0_findPieces 51 = .ok (.iastore, 1) := dk_79 (dk_at dksX0_findPieces_2 4 rfl rfl)
theorem dX0_findPieces_52 : decode cX0_findPieces 52 = .ok (.aload_n 0, 1) := dk_42 (dk_at dksX0_findPieces_2 5 rfl rfl)
theorem dX0_findPieces_53 : decode cX0_findPieces 53 = .ok (.dup, 1) := dk_89 (dk_at dksX0_findPieces_2 6 rfl rfl)
theorem dX0_findPieces_54 : decode cX0_findPieces 54 = .ok (.getfield 314, 3) := dk_180 1 58 (dk_at dksX0_findPieces_2 7 rfl rfl)
theorem dX0_findPieces_57 : decode cX0_findPieces 57 = .ok (.iload 4, 2) := dk_21 4 (dk_at dksX0_findPieces_2 10 rfl rfl)
theorem dX0_findPieces_59 : decode cX0_findPieces 59 = .ok (.ifCond .eq 7, 3) := dk_153 0 7 (dk_at dksX0_findPieces_2 12 rfl rfl)
theorem dX0_findPieces_62 : decode cX0_findPieces 62 = .ok (.iconst 1, 1) := dk_4 (dk_at dksX0_findPieces_2 15 rfl rfl)
theorem dX0_findPieces_63 : decode cX0_findPieces 63 = .ok (.goto 4, 3) := dk_167 0 4 (dk_at dksX0_findPieces_2 16 rfl rfl)
theorem dX0_findPieces_66 : decode cX0_findPieces 66 = .ok (.iconst 0, 1) := dk_3 (dk_at dksX0_findPieces_2 19 rfl rfl)
theorem dX0_findPieces_67 : decode cX0_findPieces 67 = .ok (.iadd, 1) := dk_96 (dk_at dksX0_findPieces_2 20 rfl rfl)
theorem dX0_findPieces_68 : decode cX0_findPieces 68 = .ok (.putfield 314, 3) := dk_181 1 58 (dk_at dksX0_findPieces_2 21 rfl rfl)
theorem dX0_findPieces_71 : decode cX0_findPieces 71 = .ok (.iinc 3 1, 3) := dk_132 3 1 (dk_at dksX0_findPieces_3 0 rfl rfl)
theorem dX0_findPieces_74 : decode cX0_findPieces 74 = .ok (.goto (-62), 3) := dk_167 255 194 (dk_at dksX0_findPieces_3 3 rfl rfl)
theorem dX0_findPieces_77 : decode cX0_findPieces 77 = .ok (.iconst 0, 1) := dk_3 (dk_at dksX0_findPieces_3 6 rfl rfl)
theorem dX0_findPieces_78 : decode cX0_findPieces 78 = .ok (.istore_n 3, 1) := dk_62 (dk_at dksX0_findPieces_3 7 rfl rfl)
theorem dX0_findPieces_79 : decode cX0_findPieces 79 = .ok (.iload_n 3, 1) := dk_29 (dk_at dksX0_findPieces_3 8 rfl rfl)
theorem dX0_findPieces_80 : decode cX0_findPieces 80 = .ok (.sipush 10000, 3) := dk_17 39 16 (dk_at dksX0_findPieces_3 9 rfl rfl)
theorem dX0_findPieces_83 : decode cX0_findPieces 83 = .ok (.if_icmp .ge 25, 3) := dk_162 0 25 (dk_at dksX0_findPieces_3 12 rfl rfl)
theorem dX0_findPieces_86 : decode cX0_findPieces 86 = .ok (.aload_n 0, 1) := dk_42 (dk_at dksX0_findPieces_3 15 rfl rfl)
theorem dX0_findPieces_87 : decode cX0_findPieces 87 = .ok (.getfield 65, 3) := dk_180 0 65 (dk_at dksX0_findPieces_3 16 rfl rfl)
theorem dX0_findPieces_90 : decode cX0_findPieces 90 = .ok (.iload_n 3, 1) := dk_29 (dk_at dksX0_findPieces_3 19 rfl rfl)
theorem dX0_findPieces_91 : decode cX0_findPieces 91 = .ok (.iaload, 1) := dk_46 (dk_at dksX0_findPieces_3 20 rfl rfl)
theorem dX0_findPieces_92 : decode cX0_findPieces 92 = .ok (.bipush (-2), 2) := dk_16 254 (dk_at dksX0_findPieces_3 21 rfl rfl)
theorem dX0_findPieces_94 : decode cX0_findPieces 94 = .ok (.if_icmp .ne 8, 3) := dk_160 0 8 (dk_at dksX0_findPieces_4 0 rfl rfl)
theorem dX0_findPieces_97 : decode cX0_findPieces 97 = .ok (.aload_n 0, 1) := dk_42 (dk_at dksX0_findPieces_4 3 rfl rfl)
theorem dX0_findPieces_98 : decode cX0_findPieces 98 = .ok (.iload_n 3, 1) := dk_29 (dk_at dksX0_findPieces_4 4 rfl rfl)
theorem dX0_findPieces_99 : decode cX0_findPieces 99 = .ok (.invokevirtual 320, 3) := dk_182 1 64 (dk_at dksX0_findPieces_4 5 rfl rfl)
theorem dX0_findPieces_102 : decode cX0_findPieces 102 = .ok (.iinc 3 1, 3) := dk_132 3 1 (dk_at dksX0_findPieces_4 8 rfl rfl)
theorem dX0_findPieces_105 : decode cX0_findPieces 105 = .ok (.goto (-26), 3) := dk_167 255 230 (dk_at dksX0_findPieces_4 11 rfl rfl)
theorem dX0_findPieces_108 : decode cX0_findPieces 108 = .ok (.return_, 1) := dk_177 (dk_at dksX0_findPieces_4 14 rfl rfl)
def dkwX0_fills_5 : List UInt8 := [180, 1, 61, 28, 79, 42, 89, 180, 1, 61, 4, 96, 181, 1, 61, 177]
abbrev dktX0_fills_5 : List UInt8 := dkwX0_fills_5 ++ []
def dkwX0_fills_4 : List UInt8 := [21, 4, 21, 5, 4, 96, 28, 182, 1, 67, 61, 132, 3, 1, 167, 255, 178, 42, 180, 0, 74, 42]
abbrev dktX0_fills_4 : List UInt8 := dkwX0_fills_4 ++ dktX0_fills_5
def dkwX0_fills_3 : List UInt8 := [21, 4, 4, 96, 21, 5, 28, 182, 1, 67, 61, 42, 21, 4, 21, 5, 4, 100, 28, 182, 1, 67, 61, 42]
abbrev dktX0_fills_3 : List UInt8 := dkwX0_fills_3 ++ dktX0_fills_4
def dkwX0_fills_2 : List UInt8 := [180, 0, 68, 29, 46, 16, 100, 112, 54, 5, 42, 21, 4, 4, 100, 21, 5, 28, 182, 1, 67, 61, 42]
abbrev dktX0_fills_2 : List UInt8 := dkwX0_fills_2 ++ dktX0_fills_3
def dkwX0_fills_1 : List UInt8 := [180, 1, 61, 27, 79, 3, 62, 29, 28, 162, 0, 79, 42, 180, 0, 68, 29, 46, 16, 100, 108, 54, 4, 42]
abbrev dktX0_fills_1 : List UInt8 := dkwX0_fills_1 ++ dktX0_fills_2
def dkwX0_fills_0 : List UInt8 := [4, 61, 42, 180, 0, 68, 3, 27, 79, 42, 180, 0, 65, 27, 42, 180, 1, 61, 79, 42, 180, 0, 71, 42]
abbrev dktX0_fills_0 : List UInt8 := dkwX0_fills_0 ++ dktX0_fills_1
theorem dksX0_fills_0 : cX0_fills.data.toList.drop 0 = dktX0_fills_0 := by decide +kernel
theorem dksX0_fills_1 : cX0_fills.data.toList.drop 24 = dktX0_fills_1 := dk_seg dksX0_fills_0 24 rfl rfl
theorem dksX0_fills_2 : cX0_fills.data.toList.drop 48 = dktX0_fills_2 := dk_seg dksX0_fills_1 24 rfl rfl
theorem dksX0_fills_3 : cX0_fills.data.toList.drop 71 = dktX0_fills_3 := dk_seg dksX0_fills_2 23 rfl rfl
theorem dksX0_fills_4 : cX0_fills.data.toList.drop 95 = dktX0_fills_4 := dk_seg dksX0_fills_3 24 rfl rfl
theorem dksX0_fills_5 : cX0_fills.data.toList.drop 117 = dktX0_fills_5 := dk_seg dksX0_fills_4 22 rfl rfl
theorem dX0_fills_0 : decode cX0_fills 0 = .ok (.iconst 1, 1) := dk_4 (dk_at dksX0_fills_0 0 rfl rfl)
theorem dX0_fills_1 : decode cX0_fills 1 = .ok (.istore_n 2, 1) := dk_61 (dk_at dksX0_fills_0 1 rfl rfl)
theorem dX0_fills_2 : decode cX0_fills 2 = .ok (.aload_n 0, 1) := dk_42 (dk_at dksX0_fills_0 2 rfl rfl)
theorem dX0_fills_3 : decode cX0_fills 3 = .ok (.getfield 68, 3) := dk_180 0 68 (dk_at dksX0_fills_0 3 rfl rfl)
theorem dX0_fills_6 : decode cX0_fills 6 = .ok (.iconst 0, 1) := dk_3 (dk_at dksX0_fills_0 6 rfl rfl)
theorem dX0_fills_7 : decode cX0_fills 7 = .ok (.iload_n 1, 1) := dk_27 (dk_at dksX0_fills_0 7 rfl rfl)
theorem dX0_fills_8 : decode cX0_fills 8 = .ok (.iastore, 1) := dk_79 (dk_at dksX0_fills_0 8 rfl rfl)
theorem dX0_fills_9 : decode cX0_fills 9 = .ok (.aload_n 0, 1) := dk_42 (dk_at dksX0_fills_0 9 rfl rfl)
theorem dX0_fills_10 : decode cX0_fills 10 = .ok (.getfield 65, 3) := dk_180 0 65 (dk_at dksX0_fills_0 10 rfl rfl)
theorem dX0_fills_13 : decode cX0_fills 13 = .ok (.iload_n 1, 1) := dk_27 (dk_at dksX0_fills_0 13 rfl rfl)
theorem dX0_fills_14 : decode cX0_fills 14 = .ok (.aload_n 0, 1) := dk_42 (dk_at dksX0_fills_0 14 rfl rfl)
theorem dX0_fills_15 : decode cX0_fills 15 = .ok (.getfield 317, 3) := dk_180 1 61 (dk_at dksX0_fills_0 15 rfl rfl)
theorem dX0_fills_18 : decode cX0_fills 18 = .ok (.iastore, 1) := dk_79 (dk_at dksX0_fills_0 18 rfl rfl)
theorem dX0_fills_19 : decode cX0_fills 19 = .ok (.aload_n 0, 1) := dk_42 (dk_at dksX0_fills_0 19 rfl rfl)
theorem dX0_fills_20 : decode cX0_fills 20 = .ok (.getfield 71, 3) := dk_180 0 71 (dk_at dksX0_fills_0 20 rfl rfl)
theorem dX0_fills_23 : decode cX0_fills 23 = .ok (.aload_n 0, 1) := dk_42 (dk_at dksX0_fills_0 23 rfl rfl)
theorem dX0_fills_24 : decode cX0_fills 24 = .ok (.getfield 317, 3) := dk_180 1 61 (dk_at dksX0_fills_1 0 rfl rfl)
theorem dX0_fills_27 : decode cX0_fills 27 = .ok (.iload_n 1, 1) := dk_27 (dk_at dksX0_fills_1 3 rfl rfl)
theorem dX0_fills_28 : decode cX0_fills 28 = .ok (.iastore, 1) := dk_79 (dk_at dksX0_fills_1 4 rfl rfl)
theorem dX0_fills_29 : decode cX0_fills 29 = .ok (.iconst 0, 1) := dk_3 (dk_at dksX0_fills_1 5 rfl rfl)
theorem dX0_fills_30 : decode cX0_fills 30 = .ok (.istore_n 3, 1) := dk_62 (dk_at dksX0_fills_1 6 rfl rfl)
theorem dX0_fills_31 : decode cX0_fills 31 = .ok (.iload_n 3, 1) := dk_29 (dk_at dksX0_fills_1 7 rfl rfl)
theorem dX0_fills_32 : decode cX0_fills 32 = .ok (.iload_n 2, 1) := dk_28 (dk_at dksX0_fills_1 8 rfl rfl)
theorem dX0_fills_33 : decode cX0_fills 33 = .ok (.if_icmp .ge 79, 3) := dk_162 0 79 (dk_at dksX0_fills_1 9 rfl rfl)
theorem dX0_fills_36 : decode cX0_fills 36 = .ok (.aload_n 0, 1) := dk_42 (dk_at dksX0_fills_1 12 rfl rfl)
theorem dX0_fills_37 : decode cX0_fills 37 = .ok (.getfield 68, 3) := dk_180 0 68 (dk_at dksX0_fills_1 13 rfl rfl)
theorem dX0_fills_40 : decode cX0_fills 40 = .ok (.iload_n 3, 1) := dk_29 (dk_at dksX0_fills_1 16 rfl rfl)
theorem dX0_fills_41 : decode cX0_fills 41 = .ok (.iaload, 1) := dk_46 (dk_at dksX0_fills_1 17 rfl rfl)
theorem dX0_fills_42 : decode cX0_fills 42 = .ok (.bipush 100, 2) := dk_16 100 (dk_at dksX0_fills_1 18 rfl rfl)
theorem dX0_fills_44 : decode cX0_fills 44 = .ok (.idiv, 1) := dk_108 (dk_at dksX0_fills_1 20 rfl rfl)
theorem dX0_fills_45 : decode cX0_fills 45 = .ok (.istore 4, 2) := dk_54 4 (dk_at dksX0_fills_1 21 rfl rfl)
theorem dX0_fills_47 : decode cX0_fills 47 = .ok (.aload_n 0, 1) := dk_42 (dk_at dksX0_fills_1 23 rfl rfl)
theorem dX0_fills_48 : decode cX0_fills 48 = .ok (.getfield 68, 3) := dk_180 0 68 (dk_at dksX0_fills_2 0 rfl rfl)
theorem dX0_fills_51 : decode cX0_fills 51 = .ok (.iload_n 3, 1) := dk_29 (dk_at dksX0_fills_2 3 rfl rfl)
theorem dX0_fills_52 : decode cX0_fills 52 = .ok (.iaload, 1) := dk_46 (dk_at dksX0_fills_2 4 rfl rfl)
theorem dX0_fills_53 : decode cX0_fills 53 = .ok (.bipush 100, 2) := dk_16 100 (dk_at dksX0_fills_2 5 rfl rfl)
theorem dX0_fills_55 : decode cX0_fills 55 = .ok (.irem, 1) := dk_112 (dk_at dksX0_fills_2 7 rfl rfl)
theorem dX0_fills_56 : decode cX0_fills 56 = .ok (.istore 5, 2) := dk_54 5 (dk_at dksX0_fills_2 8 rfl rfl)
theorem dX0_fills_58 : decode cX0_fills 58 = .ok (.aload_n 0, 1) := dk_42 (dk_at dksX0_fills_2 10 rfl rfl)
theorem dX0_fills_59 : decode cX0_fills 59 = .ok (.iload 4, 2) := dk_21 4 (dk_at dksX0_fills_2 11 rfl rfl)
theorem dX0_fills_61 : decode cX0_fills 61 = .ok (.iconst 1, 1) := dk_4 (dk_at dksX0_fills_2 13 rfl rfl)
theorem dX0_fills_62 : decode cX0_fills 62 = .ok (.isub, 1) := dk_100 (dk_at dksX0_fills_2 14 rfl rfl)
theorem dX0_fills_63 : decode cX0_fills 63 = .ok (.iload 5, 2) := dk_21 5 (dk_at dksX0_fills_2 15 rfl rfl)
theorem dX0_fills_65 : decode cX0_fills 65 = .ok (.iload_n 2, 1) := dk_28 (dk_at dksX0_fills_2 17 rfl rfl)
theorem dX0_fills_66 : decode cX0_fills 66 = .ok (.invokevirtual 323, 3) := dk_182 1 67 (dk_at dksX0_fills_2 18 rfl rfl)
theorem dX0_fills_69 : decode cX0_fills 69 = .ok (.istore_n 2, 1) := dk_61 (dk_at dksX0_fills_2 21 rfl rfl)
theorem dX0_fills_70 : decode cX0_fills 70 = .ok (.aload_n 0, 1) := dk_42 (dk_at dksX0_fills_2 22 rfl rfl)
theorem dX0_fills_71 : decode cX0_fills 71 = .ok (.iload 4, 2) := dk_21 4 (dk_at dksX0_fills_3 0 rfl rfl)
theorem dX0_fills_73 : decode cX0_fills 73 = .ok (.iconst 1, 1) := dk_4 (dk_at dksX0_fills_3 2 rfl rfl)
theorem dX0_fills_74 : decode cX0_fills 74 = .ok (.iadd, 1) := dk_96 (dk_at dksX0_fills_3 3 rfl rfl)
theorem dX0_fills_75 : decode cX0_fills 75 = .ok (.iload 5, 2) := dk_21 5 (dk_at dksX0_fills_3 4 rfl rfl)
theorem dX0_fills_77 : decode cX0_fills 77 = .ok (.iload_n 2, 1) := dk_28 (dk_at dksX0_fills_3 6 rfl rfl)
theorem dX0_fills_78 : decode cX0_fills 78 = .ok (.invokevirtual 323, 3) := dk_182 1 67 (dk_at dksX0_fills_3 7 rfl rfl)
theorem dX0_fills_81 : decode cX0_fills 81 = .ok (.istore_n 2, 1) := dk_61 (dk_at dksX0_fills_3 10 rfl rfl)
theorem dX0_fills_82 : decode cX0_fills 82 = .ok (.aload_n 0, 1) := dk_42 (dk_at dksX0_fills_3 11 rfl rfl)
theorem dX0_fills_83 : decode cX0_fills 83 = .ok (.iload 4, 2) := dk_21 4 (dk_at dksX0_fills_3 12 rfl rfl)
theorem dX0_fills_85 : decode cX0_fills 85 = .ok (.iload 5, 2) := dk_21 5 (dk_at dksX0_fills_3 14 rfl rfl)
theorem dX0_fills_87 : decode cX0_fills 87 = .ok (.iconst 1, 1) := dk_4 (dk_at dksX0_fills_3 16 rfl rfl)
theorem dX0_fills_88 : decode cX0_fills 88 = .ok (.isub, 1) := dk_100 (dk_at dksX0_fills_3 17 rfl rfl)
theorem dX0_fills_89 : decode cX0_fills 89 = .ok (.iload_n 2, 1) := dk_28 (dk_at dksX0_fills_3 18 rfl rfl)
theorem dX0_fills_90 : decode cX0_fills 90 = .ok (.invokevirtual 323, 3) := dk_182 1 67 (dk_at dksX0_fills_3 19 rfl rfl)
theorem dX0_fills_93 : decode cX0_fills 93 = .ok (.istore_n 2, 1) := dk_61 (dk_at dksX0_fills_3 22 rfl rfl)
theorem dX0_fills_94 : decode cX0_fills 94 = .ok (.aload_n 0, 1) := dk_42 (dk_at dksX0_fills_3 23 rfl rfl)
theorem dX0_fills_95 : decode cX0_fills 95 = .ok (.iload 4, 2) := dk_21 4 (dk_at dksX0_fills_4 0 rfl rfl)
theorem dX0_fills_97 : decode cX0_fills 97 = .ok (.iload 5, 2) := dk_21 5 (dk_at dksX0_fills_4 2 rfl rfl)
theorem dX0_fills_99 : decode cX0_fills 99 = .ok (.iconst 1, 1) := dk_4 (dk_at dksX0_fills_4 4 rfl rfl)
theorem dX0_fills_100 : decode cX0_fills 100 = .ok (.iadd, 1) := dk_96 (dk_at dksX0_fills_4 5 rfl rfl)
theorem dX0_fills_101 : decode cX0_fills 101 = .ok (.iload_n 2, 1) := dk_28 (dk_at dksX0_fills_4 6 rfl rfl)
theorem dX0_fills_102 : decode cX0_fills 102 = .ok (.invokevirtual 323, 3) := dk_182 1 67 (dk_at dksX0_fills_4 7 rfl rfl)
theorem dX0_fills_105 : decode cX0_fills 105 = .ok (.istore_n 2, 1) := dk_61 (dk_at dksX0_fills_4 10 rfl rfl)
theorem dX0_fills_106 : decode cX0_fills 106 = .ok (.iinc 3 1, 3) := dk_132 3 1 (dk_at dksX0_fills_4 11 rfl rfl)
theorem dX0_fills_109 : decode cX0_fills 109 = .ok (.goto (-78), 3) := dk_167 255 178 (dk_at dksX0_fills_4 14 rfl rfl)
theorem dX0_fills_112 : decode cX0_fills 112 = .ok (.aload_n 0, 1) := dk_42 (dk_at dksX0_fills_4 17 rfl rfl)
theorem dX0_fills_113 : decode cX0_fills 113 = .ok (.getfield 74, 3) := dk_180 0 74 (dk_at dksX0_fills_4 18 rfl rfl)
theorem dX0_fills_116 : decode cX0_fills 116 = .ok (.aload_n 0, 1) := dk_42 (dk_at dksX0_fills_4 21 rfl rfl)
theorem dX0_fills_117 : decode cX0_fills 117 = .ok (.getfield 317, 3) := dk_180 1 61 (dk_at dksX0_fills_5 0 rfl rfl)
theorem dX0_fills_120 : decode cX0_fills 120 = .ok (.iload_n 2, 1) := dk_28 (dk_at dksX0_fills_5 3 rfl rfl)
theorem dX0_fills_121 : decode cX0_fills 121 = .ok (.iastore, 1) := dk_79 (dk_at dksX0_fills_5 4 rfl rfl)
theorem dX0_fills_122 : decode cX0_fills 122 = .ok (.aload_n 0, 1) := dk_42 (dk_at dksX0_fills_5 5 rfl rfl)
theorem dX0_fills_123 : decode cX0_fills 123 = .ok (.dup, 1) := dk_89 (dk_at dksX0_fills_5 6 rfl rfl)
theorem dX0_fills_124 : decode cX0_fills 124 = .ok (.getfield 317, 3) := dk_180 1 61 (dk_at dksX0_fills_5 7 rfl rfl)
theorem dX0_fills_127 : decode cX0_fills 127 = .ok (.iconst 1, 1) := dk_4 (dk_at dksX0_fills_5 10 rfl rfl)
theorem dX0_fills_128 : decode cX0_fills 128 = .ok (.iadd, 1) := dk_96 (dk_at dksX0_fills_5 11 rfl rfl)
theorem dX0_fills_129 : decode cX0_fills 129 = .ok (.putfield 317, 3) := dk_181 1 61 (dk_at dksX0_fills_5 12 rfl rfl)
theorem dX0_fills_132 : decode cX0_fills 132 = .ok (.return_, 1) := dk_177 (dk_at dksX0_fills_5 15 rfl rfl)
def dkwX0_spreads_2 : List UInt8 := [27, 104, 28, 96, 79, 29, 4, 96, 172]
abbrev dktX0_spreads_2 : List UInt8 := dkwX0_spreads_2 ++ []
def dkwX0_spreads_1 : List UInt8 := [29, 172, 42, 180, 0, 65, 16, 100, 27, 104, 28, 96, 42, 180, 1, 61, 79, 42, 180, 0, 68, 29, 16, 100]
abbrev dktX0_spreads_1 : List UInt8 := dkwX0_spreads_1 ++ dktX0_spreads_2
def dkwX0_spreads_0 : List UInt8 := [27, 28, 184, 0, 181, 153, 0, 19, 42, 180, 0, 65, 16, 100, 27, 104, 28, 96, 46, 16, 254, 159, 0, 5]
abbrev dktX0_spreads_0 : List UInt8 := dkwX0_spreads_0 ++ dktX0_spreads_1
theorem dksX0_spreads_0 : cX0_spreads.data.toList.drop 0 = dktX0_spreads_0 := by decide +kernel
theorem dksX0_spreads_1 : cX0_spreads.data.toList.drop 24 = dktX0_spreads_1 := dk_seg dksX0_spreads_0 24 rfl rfl
theorem dksX0_spreads_2 : cX0_spreads.data.toList.drop 48 = dktX0_spreads_2 := dk_seg dksX0_spreads_1 24 rfl rfl
theorem dX0_spreads_0 : decode cX0_spreads 0 = .ok (.iload_n 1, 1) := dk_27 (dk_at dksX0_spreads_0 0 rfl rfl)
theorem dX0_spreads_1 : decode cX0_spreads 1 = .ok (.iload_n 2, 1) := dk_28 (dk_at dksX0_spreads_0 1 rfl rfl)
theorem dX0_spreads_2 : decode cX0_spreads 2 = .ok (.invokestatic 181, 3) := dk_184 0 181 (dk_at dksX0_spreads_0 2 rfl rfl)
theorem dX0_spreads_5 : decode cX0_spreads 5 = .ok (.ifCond .eq 19, 3) := dk_153 0 19 (dk_at dksX0_spreads_0 5 rfl rfl)
theorem dX0_spreads_8 : decode cX0_spreads 8 = .ok (.aload_n 0, 1) := dk_42 (dk_at dksX0_spreads_0 8 rfl rfl)
theorem dX0_spreads_9 : decode cX0_spreads 9 = .ok (.getfield 65, 3) := dk_180 0 65 (dk_at dksX0_spreads_0 9 rfl rfl)
theorem dX0_spreads_12 : decode cX0_spreads 12 = .ok (.bipush 100, 2) := dk_16 100 (dk_at dksX0_spreads_0 12 rfl rfl)
theorem dX0_spreads_14 : decode cX0_spreads 14 = .ok (.iload_n 1, 1) := dk_27 (dk_at dksX0_spreads_0 14 rfl rfl)
theorem dX0_spreads_15 : decode cX0_spreads 15 = .ok (.imul, 1) := dk_104 (dk_at dksX0_spreads_0 15 rfl rfl)
theorem dX0_spreads_16 : decode cX0_spreads 16 = .ok (.iload_n 2, 1) := dk_28 (dk_at dksX0_spreads_0 16 rfl rfl)
theorem dX0_spreads_17 : decode cX0_spreads 17 = .ok (.iadd, 1) := dk_96 (dk_at dksX0_spreads_0 17 rfl rfl)
theorem dX0_spreads_18 : decode cX0_spreads 18 = .ok (.iaload, 1) := dk_46 (dk_at dksX0_spreads_0 18 rfl rfl)
theorem dX0_spreads_19 : decode cX0_spreads 19 = .ok (.bipush (-2), 2) := dk_16 254 (dk_at dksX0_spreads_0 19 rfl rfl)
theorem dX0_spreads_21 : decode cX0_spreads 21 = .ok (.if_icmp .eq 5, 3) := dk_159 0 5 (dk_at dksX0_spreads_0 21 rfl rfl)
theorem dX0_spreads_24 : decode cX0_spreads 24 = .ok (.iload_n 3, 1) := dk_29 (dk_at dksX0_spreads_1 0 rfl rfl)
theorem dX0_spreads_25 : decode cX0_spreads 25 = .ok (.ireturn, 1) := dk_172 (dk_at dksX0_spreads_1 1 rfl rfl)
theorem dX0_spreads_26 : decode cX0_spreads 26 = .ok (.aload_n 0, 1) := dk_42 (dk_at dksX0_spreads_1 2 rfl rfl)
theorem dX0_spreads_27 : decode cX0_spreads 27 = .ok (.getfield 65, 3) := dk_180 0 65 (dk_at dksX0_spreads_1 3 rfl rfl)
theorem dX0_spreads_30 : decode cX0_spreads 30 = .ok (.bipush 100, 2) := dk_16 100 (dk_at dksX0_spreads_1 6 rfl rfl)
theorem dX0_spreads_32 : decode cX0_spreads 32 = .ok (.iload_n 1, 1) := dk_27 (dk_at dksX0_spreads_1 8 rfl rfl)
theorem dX0_spreads_33 : decode cX0_spreads 33 = .ok (.imul, 1) := dk_104 (dk_at dksX0_spreads_1 9 rfl rfl)
theorem dX0_spreads_34 : decode cX0_spreads 34 = .ok (.iload_n 2, 1) := dk_28 (dk_at dksX0_spreads_1 10 rfl rfl)
theorem dX0_spreads_35 : decode cX0_spreads 35 = .ok (.iadd, 1) := dk_96 (dk_at dksX0_spreads_1 11 rfl rfl)
theorem dX0_spreads_36 : decode cX0_spreads 36 = .ok (.aload_n 0, 1) := dk_42 (dk_at dksX0_spreads_1 12 rfl rfl)
theorem dX0_spreads_37 : decode cX0_spreads 37 = .ok (.getfield 317, 3) := dk_180 1 61 (dk_at dksX0_spreads_1 13 rfl rfl)
theorem dX0_spreads_40 : decode cX0_spreads 40 = .ok (.iastore, 1) := dk_79 (dk_at dksX0_spreads_1 16 rfl rfl)
theorem dX0_spreads_41 : decode cX0_spreads 41 = .ok (.aload_n 0, 1) := dk_42 (dk_at dksX0_spreads_1 17 rfl rfl)
theorem dX0_spreads_42 : decode cX0_spreads 42 = .ok (.getfield 68, 3) := dk_180 0 68 (dk_at dksX0_spreads_1 18 rfl rfl)
theorem dX0_spreads_45 : decode cX0_spreads 45 = .ok (.iload_n 3, 1) := dk_29 (dk_at dksX0_spreads_1 21 rfl rfl)
theorem dX0_spreads_46 : decode cX0_spreads 46 = .ok (.bipush 100, 2) := dk_16 100 (dk_at dksX0_spreads_1 22 rfl rfl)
theorem dX0_spreads_48 : decode cX0_spreads 48 = .ok (.iload_n 1, 1) := dk_27 (dk_at dksX0_spreads_2 0 rfl rfl)
theorem dX0_spreads_49 : decode cX0_spreads 49 = .ok (.imul, 1) := dk_104 (dk_at dksX0_spreads_2 1 rfl rfl)
theorem dX0_spreads_50 : decode cX0_spreads 50 = .ok (.iload_n 2, 1) := dk_28 (dk_at dksX0_spreads_2 2 rfl rfl)
theorem dX0_spreads_51 : decode cX0_spreads 51 = .ok (.iadd, 1) := dk_96 (dk_at dksX0_spreads_2 3 rfl rfl)
theorem dX0_spreads_52 : decode cX0_spreads 52 = .ok (.iastore, 1) := dk_79 (dk_at dksX0_spreads_2 4 rfl rfl)
theorem dX0_spreads_53 : decode cX0_spreads 53 = .ok (.iload_n 3, 1) := dk_29 (dk_at dksX0_spreads_2 5 rfl rfl)
theorem dX0_spreads_54 : decode cX0_spreads 54 = .ok (.iconst 1, 1) := dk_4 (dk_at dksX0_spreads_2 6 rfl rfl)
theorem dX0_spreads_55 : decode cX0_spreads 55 = .ok (.iadd, 1) := dk_96 (dk_at dksX0_spreads_2 7 rfl rfl)
theorem dX0_spreads_56 : decode cX0_spreads 56 = .ok (.ireturn, 1) := dk_172 (dk_at dksX0_spreads_2 8 rfl rfl)
def dkwX0_piece_4 : List UInt8 := [180, 0, 74, 29, 46, 172]
abbrev dktX0_piece_4 : List UInt8 := dkwX0_piece_4 ++ []
def dkwX0_piece_3 : List UInt8 := [167, 0, 27, 21, 4, 4, 160, 0, 15, 42, 180, 0, 71, 29, 46, 16, 100, 112, 167, 0, 9, 42]
abbrev dktX0_piece_3 : List UInt8 := dkwX0_piece_3 ++ dktX0_piece_4
def dkwX0_piece_2 : List UInt8 := [184, 0, 3, 154, 0, 5, 2, 172, 21, 4, 154, 0, 15, 42, 180, 0, 71, 29, 46, 16, 100, 108]
abbrev dktX0_piece_2 : List UInt8 := dkwX0_piece_2 ++ dktX0_piece_3
def dkwX0_piece_1 : List UInt8 := [184, 0, 3, 154, 0, 5, 2, 172, 42, 27, 28, 182, 1, 71, 29, 3, 42, 180, 1, 61, 4, 100]
abbrev dktX0_piece_1 : List UInt8 := dkwX0_piece_1 ++ dktX0_piece_2
def dkwX0_piece_0 : List UInt8 := [42, 180, 0, 33, 182, 0, 177, 154, 0, 21, 27, 28, 184, 0, 181, 153, 0, 13, 21, 4, 3, 5]
abbrev dktX0_piece_0 : List UInt8 := dkwX0_piece_0 ++ dktX0_piece_1
theorem dksX0_piece_0 : cX0_piece.data.toList.drop 0 = dktX0_piece_0 := by decide +kernel
theorem dksX0_piece_1 : cX0_piece.data.toList.drop 22 = dktX0_piece_1 := dk_seg dksX0_piece_0 22 rfl rfl
theorem dksX0_piece_2 : cX0_piece.data.toList.drop 44 = dktX0_piece_2 := dk_seg dksX0_piece_1 22 rfl rfl
theorem dksX0_piece_3 : cX0_piece.data.toList.drop 66 = dktX0_piece_3 := dk_seg dksX0_piece_2 22 rfl rfl
theorem dksX0_piece_4 : cX0_piece.data.toList.drop 88 = dktX0_piece_4 := dk_seg dksX0_piece_3 22 rfl rfl
theorem dX0_piece_0 : decode cX0_piece 0 = .ok (.aload_n 0, 1) := dk_42 (dk_at dksX0_piece_0 0 rfl rfl)
theorem dX0_piece_1 : decode cX0_piece 1 = .ok (.getfield 33, 3) := dk_180 0 33 (dk_at dksX0_piece_0 1 rfl rfl)
theorem dX0_piece_4 : decode cX0_piece 4 = .ok (.invokevirtual 177, 3) := dk_182 0 177 (dk_at dksX0_piece_0 4 rfl rfl)
theorem dX0_piece_7 : decode cX0_piece 7 = .ok (.ifCond .ne 21, 3) := dk_154 0 21 (dk_at dksX0_piece_0 7 rfl rfl)
theorem dX0_piece_10 : decode cX0_piece 10 = .ok (.iload_n 1, 1) := dk_27 (dk_at dksX0_piece_0 10 rfl rfl)
theorem dX0_piece_11 : decode cX0_piece 11 = .ok (.iload_n 2, 1) := dk_28 (dk_at dksX0_piece_0 11 rfl rfl)
theorem dX0_piece_12 : decode cX0_piece 12 = .ok (.invokestatic 181, 3) := dk_184 0 181 (dk_at dksX0_piece_0 12 rfl rfl)
theorem dX0_piece_15 : decode cX0_piece 15 = .ok (.ifCond .eq 13, 3) := dk_153 0 13 (dk_at dksX0_piece_0 15 rfl rfl)
theorem dX0_piece_18 : decode cX0_piece 18 = .ok (.iload 4, 2) := dk_21 4 (dk_at dksX0_piece_0 18 rfl rfl)
theorem dX0_piece_20 : decode cX0_piece 20 = .ok (.iconst 0, 1) := dk_3 (dk_at dksX0_piece_0 20 rfl rfl)
theorem dX0_piece_21 : decode cX0_piece 21 = .ok (.iconst 2, 1) := dk_5 (dk_at dksX0_piece_0 21 rfl rfl)
theorem dX0_piece_22 : decode cX0_piece 22 = .ok (.invokestatic 3, 3) := dk_184 0 3 (dk_at dksX0_piece_1 0 rfl rfl)
theorem dX0_piece_25 : decode cX0_piece 25 = .ok (.ifCond .ne 5, 3) := dk_154 0 5 (dk_at dksX0_piece_1 3 rfl rfl)
theorem dX0_piece_28 : decode cX0_piece 28 = .ok (.iconst (-1), 1) := dk_2 (dk_at dksX0_piece_1 6 rfl rfl)
theorem dX0_piece_29 : decode cX0_piece 29 = .ok (.ireturn, 1) := dk_172 (dk_at dksX0_piece_1 7 rfl rfl)
theorem dX0_piece_30 : decode cX0_piece 30 = .ok (.aload_n 0, 1) := dk_42 (dk_at dksX0_piece_1 8 rfl rfl)
theorem dX0_piece_31 : decode cX0_piece 31 = .ok (.iload_n 1, 1) := dk_27 (dk_at dksX0_piece_1 9 rfl rfl)
theorem dX0_piece_32 : decode cX0_piece 32 = .ok (.iload_n 2, 1) := dk_28 (dk_at dksX0_piece_1 10 rfl rfl)
theorem dX0_piece_33 : decode cX0_piece 33 = .ok (.invokevirtual 327, 3) := dk_182 1 71 (dk_at dksX0_piece_1 11 rfl rfl)
theorem dX0_piece_36 : decode cX0_piece 36 = .ok (.iload_n 3, 1) := dk_29 (dk_at dksX0_piece_1 14 rfl rfl)
theorem dX0_piece_37 : decode cX0_piece 37 = .ok (.iconst 0, 1) := dk_3 (dk_at dksX0_piece_1 15 rfl rfl)
theorem dX0_piece_38 : decode cX0_piece 38 = .ok (.aload_n 0, 1) := dk_42 (dk_at dksX0_piece_1 16 rfl rfl)
theorem dX0_piece_39 : decode cX0_piece 39 = .ok (.getfield 317, 3) := dk_180 1 61 (dk_at dksX0_piece_1 17 rfl rfl)
theorem dX0_piece_42 : decode cX0_piece 42 = .ok (.iconst 1, 1) := dk_4 (dk_at dksX0_piece_1 20 rfl rfl)
theorem dX0_piece_43 : decode cX0_piece 43 = .ok (.isub, 1) := dk_100 (dk_at dksX0_piece_1 21 rfl rfl)
theorem dX0_piece_44 : decode cX0_piece 44 = .ok (.invokestatic 3, 3) := dk_184 0 3 (dk_at dksX0_piece_2 0 rfl rfl)
theorem dX0_piece_47 : decode cX0_piece 47 = .ok (.ifCond .ne 5, 3) := dk_154 0 5 (dk_at dksX0_piece_2 3 rfl rfl)
theorem dX0_piece_50 : decode cX0_piece 50 = .ok (.iconst (-1), 1) := dk_2 (dk_at dksX0_piece_2 6 rfl rfl)
theorem dX0_piece_51 : decode cX0_piece 51 = .ok (.ireturn, 1) := dk_172 (dk_at dksX0_piece_2 7 rfl rfl)
theorem dX0_piece_52 : decode cX0_piece 52 = .ok (.iload 4, 2) := dk_21 4 (dk_at dksX0_piece_2 8 rfl rfl)
theorem dX0_piece_54 : decode cX0_piece 54 = .ok (.ifCond .ne 15, 3) := dk_154 0 15 (dk_at dksX0_piece_2 10 rfl rfl)
theorem dX0_piece_57 : decode cX0_piece 57 = .ok (.aload_n 0, 1) := dk_42 (dk_at dksX0_piece_2 13 rfl rfl)
theorem dX0_piece_58 : decode cX0_piece 58 = .ok (.getfield 71, 3) := dk_180 0 71 (dk_at dksX0_piece_2 14 rfl rfl)
theorem dX0_piece_61 : decode cX0_piece 61 = .ok (.iload_n 3, 1) := dk_29 (dk_at dksX0_piece_2 17 rfl rfl)
theorem dX0_piece_62 : decode cX0_piece 62 = .ok (.iaload, 1) := dk_46 (dk_at dksX0_piece_2 18 rfl rfl)
theorem dX0_piece_63 : decode cX0_piece 63 = .ok (.bipush 100, 2) := dk_16 100 (dk_at dksX0_piece_2 19 rfl rfl)
theorem dX0_piece_65 : decode cX0_piece 65 = .ok (.idiv, 1) := dk_108 (dk_at dksX0_piece_2 21 rfl rfl)
theorem dX0_piece_66 : decode cX0_piece 66 = .ok (.goto 27, 3) := dk_167 0 27 (dk_at dksX0_piece_3 0 rfl rfl)
theorem dX0_piece_69 : decode cX0_piece 69 = .ok (.iload 4, 2) := dk_21 4 (dk_at dksX0_piece_3 3 rfl rfl)
theorem dX0_piece_71 : decode cX0_piece 71 = .ok (.iconst 1, 1) := dk_4 (dk_at dksX0_piece_3 5 rfl rfl)
theorem dX0_piece_72 : decode cX0_piece 72 = .ok (.if_icmp .ne 15, 3) := dk_160 0 15 (dk_at dksX0_piece_3 6 rfl rfl)
theorem dX0_piece_75 : decode cX0_piece 75 = .ok (.aload_n 0, 1) := dk_42 (dk_at dksX0_piece_3 9 rfl rfl)
theorem dX0_piece_76 : decode cX0_piece 76 = .ok (.getfield 71, 3) := dk_180 0 71 (dk_at dksX0_piece_3 10 rfl rfl)
theorem dX0_piece_79 : decode cX0_piece 79 = .ok (.iload_n 3, 1) := dk_29 (dk_at dksX0_piece_3 13 rfl rfl)
theorem dX0_piece_80 : decode cX0_piece 80 = .ok (.iaload, 1) := dk_46 (dk_at dksX0_piece_3 14 rfl rfl)
theorem dX0_piece_81 : decode cX0_piece 81 = .ok (.bipush 100, 2) := dk_16 100 (dk_at dksX0_piece_3 15 rfl rfl)
theorem dX0_piece_83 : decode cX0_piece 83 = .ok (.irem, 1) := dk_112 (dk_at dksX0_piece_3 17 rfl rfl)
theorem dX0_piece_84 : decode cX0_piece 84 = .ok (.goto 9, 3) := dk_167 0 9 (dk_at dksX0_piece_3 18 rfl rfl)
theorem dX0_piece_87 : decode cX0_piece 87 = .ok (.aload_n 0, 1) := dk_42 (dk_at dksX0_piece_3 21 rfl rfl)
theorem dX0_piece_88 : decode cX0_piece 88 = .ok (.getfield 74, 3) := dk_180 0 74 (dk_at dksX0_piece_4 0 rfl rfl)
theorem dX0_piece_91 : decode cX0_piece 91 = .ok (.iload_n 3, 1) := dk_29 (dk_at dksX0_piece_4 3 rfl rfl)
theorem dX0_piece_92 : decode cX0_piece 92 = .ok (.iaload, 1) := dk_46 (dk_at dksX0_piece_4 4 rfl rfl)
theorem dX0_piece_93 : decode cX0_piece 93 = .ok (.ireturn, 1) := dk_172 (dk_at dksX0_piece_4 5 rfl rfl)
def dkwX0_led_6 : List UInt8 := [132, 5, 1, 167, 255, 184, 21, 4, 172]
abbrev dktX0_led_6 : List UInt8 := dkwX0_led_6 ++ []
def dkwX0_led_5 : List UInt8 := [182, 0, 106, 192, 0, 112, 182, 0, 210, 154, 0, 9, 132, 6, 1, 167, 255, 203, 21, 6, 54, 4]
abbrev dktX0_led_5 : List UInt8 := dkwX0_led_5 ++ dktX0_led_6
def dkwX0_led_4 : List UInt8 := [160, 0, 34, 42, 42, 180, 0, 37, 21, 6, 182, 0, 106, 192, 0, 112, 42, 180, 0, 37, 21, 4]
abbrev dktX0_led_4 : List UInt8 := dkwX0_led_4 ++ dktX0_led_5
def dkwX0_led_3 : List UInt8 := [162, 0, 72, 3, 54, 6, 42, 180, 0, 77, 21, 6, 46, 42, 180, 0, 77, 21, 4, 46, 4, 100]
abbrev dktX0_led_3 : List UInt8 := dkwX0_led_3 ++ dktX0_led_4
def dkwX0_led_2 : List UInt8 := [180, 0, 77, 27, 46, 184, 0, 3, 154, 0, 5, 2, 172, 27, 54, 4, 3, 54, 5, 21, 5, 29]
abbrev dktX0_led_2 : List UInt8 := dkwX0_led_2 ++ dktX0_led_3
def dkwX0_led_1 : List UInt8 := [2, 159, 0, 13, 42, 180, 0, 77, 27, 46, 2, 160, 0, 10, 42, 180, 0, 77, 27, 46, 172, 29, 3, 42]
abbrev dktX0_led_1 : List UInt8 := dkwX0_led_1 ++ dktX0_led_2
def dkwX0_led_0 : List UInt8 := [42, 27, 182, 0, 171, 198, 0, 11, 42, 28, 182, 0, 171, 199, 0, 5, 2, 172, 42, 28, 182, 1, 74, 29]
abbrev dktX0_led_0 : List UInt8 := dkwX0_led_0 ++ dktX0_led_1
theorem dksX0_led_0 : cX0_led.data.toList.drop 0 = dktX0_led_0 := by decide +kernel
theorem dksX0_led_1 : cX0_led.data.toList.drop 24 = dktX0_led_1 := dk_seg dksX0_led_0 24 rfl rfl
theorem dksX0_led_2 : cX0_led.data.toList.drop 48 = dktX0_led_2 := dk_seg dksX0_led_1 24 rfl rfl
theorem dksX0_led_3 : cX0_led.data.toList.drop 70 = dktX0_led_3 := dk_seg dksX0_led_2 22 rfl rfl
theorem dksX0_led_4 : cX0_led.data.toList.drop 92 = dktX0_led_4 := dk_seg dksX0_led_3 22 rfl rfl
theorem dksX0_led_5 : cX0_led.data.toList.drop 114 = dktX0_led_5 := dk_seg dksX0_led_4 22 rfl rfl
theorem dksX0_led_6 : cX0_led.data.toList.drop 136 = dktX0_led_6 := dk_seg dksX0_led_5 22 rfl rfl
theorem dX0_led_0 : decode cX0_led 0 = .ok (.aload_n 0, 1) := dk_42 (dk_at dksX0_led_0 0 rfl rfl)
theorem dX0_led_1 : decode cX0_led 1 = .ok (.iload_n 1, 1) := dk_27 (dk_at dksX0_led_0 1 rfl rfl)
theorem dX0_led_2 : decode cX0_led 2 = .ok (.invokevirtual 171, 3) := dk_182 0 171 (dk_at dksX0_led_0 2 rfl rfl)
theorem dX0_led_5 : decode cX0_led 5 = .ok (.ifnull 11, 3) := dk_198 0 11 (dk_at dksX0_led_0 5 rfl rfl)
theorem dX0_led_8 : decode cX0_led 8 = .ok (.aload_n 0, 1) := dk_42 (dk_at dksX0_led_0 8 rfl rfl)
theorem dX0_led_9 : decode cX0_led 9 = .ok (.iload_n 2, 1) := dk_28 (dk_at dksX0_led_0 9 rfl rfl)
theorem dX0_led_10 : decode cX0_led 10 = .ok (.invokevirtual 171, 3) := dk_182 0 171 (dk_at dksX0_led_0 10 rfl rfl)
theorem dX0_led_13 : decode cX0_led 13 = .ok (.ifnonnull 5, 3) := dk_199 0 5 (dk_at dksX0_led_0 13 rfl rfl)
theorem dX0_led_16 : decode cX0_led 16 = .ok (.iconst (-1), 1) := dk_2 (dk_at dksX0_led_0 16 rfl rfl)
theorem dX0_led_17 : decode cX0_led 17 = .ok (.ireturn, 1) := dk_172 (dk_at dksX0_led_0 17 rfl rfl)
theorem dX0_led_18 : decode cX0_led 18 = .ok (.aload_n 0, 1) := dk_42 (dk_at dksX0_led_0 18 rfl rfl)
theorem dX0_led_19 : decode cX0_led 19 = .ok (.iload_n 2, 1) := dk_28 (dk_at dksX0_led_0 19 rfl rfl)
theorem dX0_led_20 : decode cX0_led 20 = .ok (.invokevirtual 330, 3) := dk_182 1 74 (dk_at dksX0_led_0 20 rfl rfl)
theorem dX0_led_23 : decode cX0_led 23 = .ok (.iload_n 3, 1) := dk_29 (dk_at dksX0_led_0 23 rfl rfl)
theorem dX0_led_24 : decode cX0_led 24 = .ok (.iconst (-1), 1) := dk_2 (dk_at dksX0_led_1 0 rfl rfl)
theorem dX0_led_25 : decode cX0_led 25 = .ok (.if_icmp .eq 13, 3) := dk_159 0 13 (dk_at dksX0_led_1 1 rfl rfl)
theorem dX0_led_28 : decode cX0_led 28 = .ok (.aload_n 0, 1) := dk_42 (dk_at dksX0_led_1 4 rfl rfl)
theorem dX0_led_29 : decode cX0_led 29 = .ok (.getfield 77, 3) := dk_180 0 77 (dk_at dksX0_led_1 5 rfl rfl)
theorem dX0_led_32 : decode cX0_led 32 = .ok (.iload_n 1, 1) := dk_27 (dk_at dksX0_led_1 8 rfl rfl)
theorem dX0_led_33 : decode cX0_led 33 = .ok (.iaload, 1) := dk_46 (dk_at dksX0_led_1 9 rfl rfl)
theorem dX0_led_34 : decode cX0_led 34 = .ok (.iconst (-1), 1) := dk_2 (dk_at dksX0_led_1 10 rfl rfl)
theorem dX0_led_35 : decode cX0_led 35 = .ok (.if_icmp .ne 10, 3) := dk_160 0 10 (dk_at dksX0_led_1 11 rfl rfl)
theorem dX0_led_38 : decode cX0_led 38 = .ok (.aload_n 0, 1) := dk_42 (dk_at dksX0_led_1 14 rfl rfl)
theorem dX0_led_39 : decode cX0_led 39 = .ok (.getfield 77, 3) := dk_180 0 77 (dk_at dksX0_led_1 15 rfl rfl)
theorem dX0_led_42 : decode cX0_led 42 = .ok (.iload_n 1, 1) := dk_27 (dk_at dksX0_led_1 18 rfl rfl)
theorem dX0_led_43 : decode cX0_led 43 = .ok (.iaload, 1) := dk_46 (dk_at dksX0_led_1 19 rfl rfl)
theorem dX0_led_44 : decode cX0_led 44 = .ok (.ireturn, 1) := dk_172 (dk_at dksX0_led_1 20 rfl rfl)
theorem dX0_led_45 : decode cX0_led 45 = .ok (.iload_n 3, 1) := dk_29 (dk_at dksX0_led_1 21 rfl rfl)
theorem dX0_led_46 : decode cX0_led 46 = .ok (.iconst 0, 1) := dk_3 (dk_at dksX0_led_1 22 rfl rfl)
theorem dX0_led_47 : decode cX0_led 47 = .ok (.aload_n 0, 1) := dk_42 (dk_at dksX0_led_1 23 rfl rfl)
theorem dX0_led_48 : decode cX0_led 48 = .ok (.getfield 77, 3) := dk_180 0 77 (dk_at dksX0_led_2 0 rfl rfl)
theorem dX0_led_51 : decode cX0_led 51 = .ok (.iload_n 1, 1) := dk_27 (dk_at dksX0_led_2 3 rfl rfl)
theorem dX0_led_52 : decode cX0_led 52 = .ok (.iaload, 1) := dk_46 (dk_at dksX0_led_2 4 rfl rfl)
theorem dX0_led_53 : decode cX0_led 53 = .ok (.invokestatic 3, 3) := dk_184 0 3 (dk_at dksX0_led_2 5 rfl rfl)
theorem dX0_led_56 : decode cX0_led 56 = .ok (.ifCond .ne 5, 3) := dk_154 0 5 (dk_at dksX0_led_2 8 rfl rfl)
theorem dX0_led_59 : decode cX0_led 59 = .ok (.iconst (-1), 1) := dk_2 (dk_at dksX0_led_2 11 rfl rfl)
theorem dX0_led_60 : decode cX0_led 60 = .ok (.ireturn, 1) := dk_172 (dk_at dksX0_led_2 12 rfl rfl)
theorem dX0_led_61 : decode cX0_led 61 = .ok (.iload_n 1, 1) := dk_27 (dk_at dksX0_led_2 13 rfl rfl)
theorem dX0_led_62 : decode cX0_led 62 = .ok (.istore 4, 2) := dk_54 4 (dk_at dksX0_led_2 14 rfl rfl)
theorem dX0_led_64 : decode cX0_led 64 = .ok (.iconst 0, 1) := dk_3 (dk_at dksX0_led_2 16 rfl rfl)
theorem dX0_led_65 : decode cX0_led 65 = .ok (.istore 5, 2) := dk_54 5 (dk_at dksX0_led_2 17 rfl rfl)
theorem dX0_led_67 : decode cX0_led 67 = .ok (.iload 5, 2) := dk_21 5 (dk_at dksX0_led_2 19 rfl rfl)
theorem dX0_led_69 : decode cX0_led 69 = .ok (.iload_n 3, 1) := dk_29 (dk_at dksX0_led_2 21 rfl rfl)
theorem dX0_led_70 : decode cX0_led 70 = .ok (.if_icmp .ge 72, 3) := dk_162 0 72 (dk_at dksX0_led_3 0 rfl rfl)
theorem dX0_led_73 : decode cX0_led 73 = .ok (.iconst 0, 1) := dk_3 (dk_at dksX0_led_3 3 rfl rfl)
theorem dX0_led_74 : decode cX0_led 74 = .ok (.istore 6, 2) := dk_54 6 (dk_at dksX0_led_3 4 rfl rfl)
theorem dX0_led_76 : decode cX0_led 76 = .ok (.aload_n 0, 1) := dk_42 (dk_at dksX0_led_3 6 rfl rfl)
theorem dX0_led_77 : decode cX0_led 77 = .ok (.getfield 77, 3) := dk_180 0 77 (dk_at dksX0_led_3 7 rfl rfl)
theorem dX0_led_80 : decode cX0_led 80 = .ok (.iload 6, 2) := dk_21 6 (dk_at dksX0_led_3 10 rfl rfl)
theorem dX0_led_82 : decode cX0_led 82 = .ok (.iaload, 1) := dk_46 (dk_at dksX0_led_3 12 rfl rfl)
theorem dX0_led_83 : decode cX0_led 83 = .ok (.aload_n 0, 1) := dk_42 (dk_at dksX0_led_3 13 rfl rfl)
theorem dX0_led_84 : decode cX0_led 84 = .ok (.getfield 77, 3) := dk_180 0 77 (dk_at dksX0_led_3 14 rfl rfl)
theorem dX0_led_87 : decode cX0_led 87 = .ok (.iload 4, 2) := dk_21 4 (dk_at dksX0_led_3 17 rfl rfl)
theorem dX0_led_89 : decode cX0_led 89 = .ok (.iaload, 1) := dk_46 (dk_at dksX0_led_3 19 rfl rfl)
theorem dX0_led_90 : decode cX0_led 90 = .ok (.iconst 1, 1) := dk_4 (dk_at dksX0_led_3 20 rfl rfl)
theorem dX0_led_91 : decode cX0_led 91 = .ok (.isub, 1) := dk_100 (dk_at dksX0_led_3 21 rfl rfl)
theorem dX0_led_92 : decode cX0_led 92 = .ok (.if_icmp .ne 34, 3) := dk_160 0 34 (dk_at dksX0_led_4 0 rfl rfl)
theorem dX0_led_95 : decode cX0_led 95 = .ok (.aload_n 0, 1) := dk_42 (dk_at dksX0_led_4 3 rfl rfl)
theorem dX0_led_96 : decode cX0_led 96 = .ok (.aload_n 0, 1) := dk_42 (dk_at dksX0_led_4 4 rfl rfl)
theorem dX0_led_97 : decode cX0_led 97 = .ok (.getfield 37, 3) := dk_180 0 37 (dk_at dksX0_led_4 5 rfl rfl)
theorem dX0_led_100 : decode cX0_led 100 = .ok (.iload 6, 2) := dk_21 6 (dk_at dksX0_led_4 8 rfl rfl)
theorem dX0_led_102 : decode cX0_led 102 = .ok (.invokevirtual 106, 3) := dk_182 0 106 (dk_at dksX0_led_4 10 rfl rfl)
theorem dX0_led_105 : decode cX0_led 105 = .ok (.checkcast 112, 3) := dk_192 0 112 (dk_at dksX0_led_4 13 rfl rfl)
theorem dX0_led_108 : decode cX0_led 108 = .ok (.aload_n 0, 1) := dk_42 (dk_at dksX0_led_4 16 rfl rfl)
theorem dX0_led_109 : decode cX0_led 109 = .ok (.getfield 37, 3) := dk_180 0 37 (dk_at dksX0_led_4 17 rfl rfl)
theorem dX0_led_112 : decode cX0_led 112 = .ok (.iload 4, 2) := dk_21 4 (dk_at dksX0_led_4 20 rfl rfl)
theorem dX0_led_114 : decode cX0_led 114 = .ok (.invokevirtual 106, 3) := dk_182 0 106 (dk_at dksX0_led_5 0 rfl rfl)
theorem dX0_led_117 : decode cX0_led 117 = .ok (.checkcast 112, 3) := dk_192 0 112 (dk_at dksX0_led_5 3 rfl rfl)
theorem dX0_led_120 : decode cX0_led 120 = .ok (.invokevirtual 210, 3) := dk_182 0 210 (dk_at dksX0_led_5 6 rfl rfl)
theorem dX0_led_123 : decode cX0_led 123 = .ok (.ifCond .ne 9, 3) := dk_154 0 9 (dk_at dksX0_led_5 9 rfl rfl)
theorem dX0_led_126 : decode cX0_led 126 = .ok (.iinc 6 1, 3) := dk_132 6 1 (dk_at dksX0_led_5 12 rfl rfl)
theorem dX0_led_129 : decode cX0_led 129 = .ok (.goto (-53), 3) := dk_167 255 203 (dk_at dksX0_led_5 15 rfl rfl)
theorem dX0_led_132 : decode cX0_led 132 = .ok (.iload 6, 2) := dk_21 6 (dk_at dksX0_led_5 18 rfl rfl)
theorem dX0_led_134 : decode cX0_led 134 = .ok (.istore 4, 2) := dk_54 4 (dk_at dksX0_led_5 20 rfl rfl)
theorem dX0_led_136 : decode cX0_led 136 = .ok (.iinc 5 1, 3) := dk_132 5 1 (dk_at dksX0_led_6 0 rfl rfl)
theorem dX0_led_139 : decode cX0_led 139 = .ok (.goto (-72), 3) := dk_167 255 184 (dk_at dksX0_led_6 3 rfl rfl)
theorem dX0_led_142 : decode cX0_led 142 = .ok (.iload 4, 2) := dk_21 4 (dk_at dksX0_led_6 6 rfl rfl)
theorem dX0_led_144 : decode cX0_led 144 = .ok (.ireturn, 1) := dk_172 (dk_at dksX0_led_6 8 rfl rfl)
