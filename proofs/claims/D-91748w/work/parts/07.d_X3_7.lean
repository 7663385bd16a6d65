set_option maxRecDepth 100000
def dkwX3_init_12 : List UInt8 := [197, 0, 13, 2, 181, 0, 111, 177]
abbrev dktX3_init_12 : List UInt8 := dkwX3_init_12 ++ []
def dkwX3_init_11 : List UInt8 := [181, 0, 102, 42, 16, 15, 188, 10, 181, 0, 105, 42, 16, 15, 188, 10, 181, 0, 108, 42, 16, 40, 16, 9]
abbrev dktX3_init_11 : List UInt8 := dkwX3_init_11 ++ dktX3_init_12
def dkwX3_init_10 : List UInt8 := [188, 10, 181, 0, 94, 42, 16, 8, 16, 8, 197, 0, 97, 2, 181, 0, 99, 42, 16, 8, 188, 11]
abbrev dktX3_init_10 : List UInt8 := dkwX3_init_10 ++ dktX3_init_11
def dkwX3_init_9 : List UInt8 := [181, 0, 85, 42, 17, 39, 16, 188, 10, 181, 0, 88, 42, 17, 39, 16, 188, 10, 181, 0, 91, 42, 16, 20]
abbrev dktX3_init_9 : List UInt8 := dkwX3_init_9 ++ dktX3_init_10
def dkwX3_init_8 : List UInt8 := [17, 21, 224, 188, 11, 181, 0, 78, 42, 17, 21, 224, 188, 11, 181, 0, 82, 42, 17, 21, 224, 188, 11]
abbrev dktX3_init_8 : List UInt8 := dkwX3_init_8 ++ dktX3_init_9
def dkwX3_init_7 : List UInt8 := [16, 105, 188, 10, 181, 0, 69, 42, 16, 105, 188, 10, 181, 0, 72, 42, 16, 105, 188, 10, 181, 0, 75, 42]
abbrev dktX3_init_7 : List UInt8 := dkwX3_init_7 ++ dktX3_init_8
def dkwX3_init_6 : List UInt8 := [89, 3, 18, 57, 83, 89, 4, 18, 59, 83, 89, 5, 18, 61, 83, 89, 6, 18, 63, 83, 181, 0, 65, 42]
abbrev dktX3_init_6 : List UInt8 := dkwX3_init_6 ++ dktX3_init_7
def dkwX3_init_5 : List UInt8 := [188, 10, 181, 0, 46, 42, 5, 188, 10, 181, 0, 49, 42, 5, 188, 10, 181, 0, 52, 42, 7, 189, 0, 55]
abbrev dktX3_init_5 : List UInt8 := dkwX3_init_5 ++ dktX3_init_6
def dkwX3_init_4 : List UInt8 := [197, 0, 13, 2, 181, 0, 36, 42, 5, 188, 10, 181, 0, 39, 42, 5, 188, 10, 181, 0, 43, 42, 5]
abbrev dktX3_init_4 : List UInt8 := dkwX3_init_4 ++ dktX3_init_5
def dkwX3_init_3 : List UInt8 := [197, 0, 13, 2, 181, 0, 30, 42, 5, 16, 20, 197, 0, 13, 2, 181, 0, 33, 42, 5, 16, 20]
abbrev dktX3_init_3 : List UInt8 := dkwX3_init_3 ++ dktX3_init_4
def dkwX3_init_2 : List UInt8 := [16, 15, 197, 0, 13, 2, 181, 0, 24, 42, 5, 16, 15, 197, 0, 13, 2, 181, 0, 27, 42, 5, 16, 15]
abbrev dktX3_init_2 : List UInt8 := dkwX3_init_2 ++ dktX3_init_3
def dkwX3_init_1 : List UInt8 := [42, 5, 16, 15, 197, 0, 13, 2, 181, 0, 18, 42, 5, 16, 15, 197, 0, 13, 2, 181, 0, 21, 42, 5]
abbrev dktX3_init_1 : List UInt8 := dkwX3_init_1 ++ dktX3_init_2
def dkwX3_init_0 : List UInt8 := [42, 183, 0, 1, 42, 17, 2, 88, 188, 8, 181, 0, 9, 42, 5, 16, 15, 197, 0, 13, 2, 181, 0, 15]
abbrev dktX3_init_0 : List UInt8 := dkwX3_init_0 ++ dktX3_init_1
theorem dksX3_init_0 : cX3_init.data.toList.drop 0 = dktX3_init_0 := by decide +kernel
theorem dksX3_init_1 : cX3_init.data.toList.drop 24 = dktX3_init_1 := dk_seg dksX3_init_0 24 rfl rfl
theorem dksX3_init_2 : cX3_init.data.toList.drop 48 = dktX3_init_2 := dk_seg dksX3_init_1 24 rfl rfl
theorem dksX3_init_3 : cX3_init.data.toList.drop 72 = dktX3_init_3 := dk_seg dksX3_init_2 24 rfl rfl
theorem dksX3_init_4 : cX3_init.data.toList.drop 94 = dktX3_init_4 := dk_seg dksX3_init_3 22 rfl rfl
theorem dksX3_init_5 : cX3_init.data.toList.drop 117 = dktX3_init_5 := dk_seg dksX3_init_4 23 rfl rfl
theorem dksX3_init_6 : cX3_init.data.toList.drop 141 = dktX3_init_6 := dk_seg dksX3_init_5 24 rfl rfl
theorem dksX3_init_7 : cX3_init.data.toList.drop 165 = dktX3_init_7 := dk_seg dksX3_init_6 24 rfl rfl
theorem dksX3_init_8 : cX3_init.data.toList.drop 189 = dktX3_init_8 := dk_seg dksX3_init_7 24 rfl rfl
theorem dksX3_init_9 : cX3_init.data.toList.drop 212 = dktX3_init_9 := dk_seg dksX3_init_8 23 rfl rfl
theorem dksX3_init_10 : cX3_init.data.toList.drop 236 = dktX3_init_10 := dk_seg dksX3_init_9 24 rfl rfl
theorem dksX3_init_11 : cX3_init.data.toList.drop 258 = dktX3_init_11 := dk_seg dksX3_init_10 22 rfl rfl
theorem dksX3_init_12 : cX3_init.data.toList.drop 282 = dktX3_init_12 := dk_seg dksX3_init_11 24 rfl rfl
theorem dX3_init_0 : decode cX3_init 0 = .ok (.aload_n 0, 1) := dk_42 (dk_at dksX3_init_0 0 rfl rfl)
theorem dX3_init_1 : decode cX3_init 1 = .ok (.invokespecial 1, 3) := dk_183 0 1 (dk_at dksX3_init_0 1 rfl rfl)
theorem dX3_init_4 : decode cX3_init 4 = .ok (.aload_n 0, 1) := dk_42 (dk_at dksX3_init_0 4 rfl rfl)
theorem dX3_init_5 : decode cX3_init 5 = .ok (.sipush 600, 3) := dk_17 2 88 (dk_at dksX3_init_0 5 rfl rfl)
theorem dX3_init_8 : decode cX3_init 8 = .ok (.newarray .byte, 2) := dk_188_8 (dk_at dksX3_init_0 8 rfl rfl)
theorem dX3_init_10 : decode cX3_init 10 = .ok (.putfield 9, 3) := dk_181 0 9 (dk_at dksX3_init_0 10 rfl rfl)
theorem dX3_init_13 : decode cX3_init 13 = .ok (.aload_n 0, 1) := dk_42 (dk_at dksX3_init_0 13 rfl rfl)
theorem dX3_init_14 : decode cX3_init 14 = .ok (.iconst 2, 1) := dk_5 (dk_at dksX3_init_0 14 rfl rfl)
theorem dX3_init_15 : decode cX3_init 15 = .ok (.bipush 15, 2) := dk_16 15 (dk_at dksX3_init_0 15 rfl rfl)
theorem dX3_init_17 : decode cX3_init 17 = .ok (.multianewarray 13 2, 4) := by decide +kernel
theorem dX3_init_21 : decode cX3_init 21 = .ok (.putfield 15, 3) := dk_181 0 15 (dk_at dksX3_init_0 21 rfl rfl)
theorem dX3_init_24 : decode cX3_init 24 = .ok (.aload_n 0, 1) := dk_42 (dk_at dksX3_init_1 0 rfl rfl)
theorem dX3_init_25 : decode cX3_init 25 = .ok (.iconst 2, 1) := dk_5 (dk_at dksX3_init_1 1 rfl rfl)
theorem dX3_init_26 : decode cX3_init 26 = .ok (.bipush 15, 2) := dk_16 15 (dk_at dksX3_init_1 2 rfl rfl)
theorem dX3_init_28 : decode cX3_init 28 = .ok (.multianewarray 13 2, 4) := by decide +kernel
theorem dX3_init_32 : decode cX3_init 32 = .ok (.putfield 18, 3) := dk_181 0 18 (dk_at dksX3_init_1 8 rfl rfl)
theorem dX3_init_35 : decode cX3_init 35 = .ok (.aload_n 0, 1) := dk_42 (dk_at dksX3_init_1 11 rfl rfl)
theorem dX3_init_36 : decode cX3_init 36 = .ok (.iconst 2, 1) := dk_5 (dk_at dksX3_init_1 12 rfl rfl)
theorem dX3_init_37 : decode cX3_init 37 = .ok (.bipush 15, 2) := dk_16 15 (dk_at dksX3_init_1 13 rfl rfl)
theorem dX3_init_39 : decode cX3_init 39 = .ok (.multianewarray 13 2, 4) := by decide +kernel
theorem dX3_init_43 : decode cX3_init 43 = .ok (.putfield 21, 3) := dk_181 0 21 (dk_at dksX3_init_1 19 rfl rfl)
theorem dX3_init_46 : decode cX3_init 46 = .ok (.aload_n 0, 1) := dk_42 (dk_at dksX3_init_1 22 rfl rfl)
theorem dX3_init_47 : decode cX3_init 47 = .ok (.iconst 2, 1) := dk_5 (dk_at dksX3_init_1 23 rfl rfl)
theorem dX3_init_48 : decode cX3_init 48 = .ok (.bipush 15, 2) := dk_16 15 (dk_at dksX3_init_2 0 rfl rfl)
theorem dX3_init_50 : decode cX3_init 50 = .ok (.multianewarray 13 2, 4) := by decide +kernel
theorem dX3_init_54 : decode cX3_init 54 = .ok (.putfield 24, 3) := dk_181 0 24 (dk_at dksX3_init_2 6 rfl rfl)
theorem dX3_init_57 : decode cX3_init 57 = .ok (.aload_n 0, 1) := dk_42 (dk_at dksX3_init_2 9 rfl rfl)
theorem dX3_init_58 : decode cX3_init 58 = .ok (.iconst 2, 1) := dk_5 (dk_at dksX3_init_2 10 rfl rfl)
theorem dX3_init_59 : decode cX3_init 59 = .ok (.bipush 15, 2) := dk_16 15 (dk_at dksX3_init_2 11 rfl rfl)
theorem dX3_init_61 : decode cX3_init 61 = .ok (.multianewarray 13 2, 4) := by decide +kernel
theorem dX3_init_65 : decode cX3_init 65 = .ok (.putfield 27, 3) := dk_181 0 27 (dk_at dksX3_init_2 17 rfl rfl)
theorem dX3_init_68 : decode cX3_init 68 = .ok (.aload_n 0, 1) := dk_42 (dk_at dksX3_init_2 20 rfl rfl)
theorem dX3_init_69 : decode cX3_init 69 = .ok (.iconst 2, 1) := dk_5 (dk_at dksX3_init_2 21 rfl rfl)
theorem dX3_init_70 : decode cX3_init 70 = .ok (.bipush 15, 2) := dk_16 15 (dk_at dksX3_init_2 22 rfl rfl)
theorem dX3_init_72 : decode cX3_init 72 = .ok (.multianewarray 13 2, 4) := by decide +kernel
theorem dX3_init_76 : decode cX3_init 76 = .ok (.putfield 30, 3) := dk_181 0 30 (dk_at dksX3_init_3 4 rfl rfl)
theorem dX3_init_79 : decode cX3_init 79 = .ok (.aload_n 0, 1) := dk_42 (dk_at dksX3_init_3 7 rfl rfl)
theorem dX3_init_80 : decode cX3_init 80 = .ok (.iconst 2, 1) := dk_5 (dk_at dksX3_init_3 8 rfl rfl)
theorem dX3_init_81 : decode cX3_init 81 = .ok (.bipush 20, 2) := dk_16 20 (dk_at dksX3_init_3 9 rfl rfl)
theorem dX3_init_83 : decode cX3_init 83 = .ok (.multianewarray 13 2, 4) := by decide +kernel
theorem dX3_init_87 : decode cX3_init 87 = .ok (.putfield 33, 3) := dk_181 0 33 (dk_at dksX3_init_3 15 rfl rfl)
theorem dX3_init_90 : decode cX3_init 90 = .ok (.aload_n 0, 1) := dk_42 (dk_at dksX3_init_3 18 rfl rfl)
theorem dX3_init_91 : decode cX3_init 91 = .ok (.iconst 2, 1) := dk_5 (dk_at dksX3_init_3 19 rfl rfl)
theorem dX3_init_92 : decode cX3_init 92 = .ok (.bipush 20, 2) := dk_16 20 (dk_at dksX3_init_3 20 rfl rfl)
theorem dX3_init_94 : decode cX3_init 94 = .ok (.multianewarray 13 2, 4) := by decide +kernel
theorem dX3_init_98 : decode cX3_init 98 = .ok (.putfield 36, 3) := dk_181 0 36 (dk_at dksX3_init_4 4 rfl rfl)
theorem dX3_init_101 : decode cX3_init 101 = .ok (.aload_n 0, 1) := dk_42 (dk_at dksX3_init_4 7 rfl rfl)
theorem dX3_init_102 : decode cX3_init 102 = .ok (.iconst 2, 1) := dk_5 (dk_at dksX3_init_4 8 rfl rfl)
theorem dX3_init_103 : decode cX3_init 103 = .ok (.newarray .int, 2) := dk_188_10 (dk_at dksX3_init_4 9 rfl rfl)
theorem dX3_init_105 : decode cX3_init 105 = .ok (.putfield 39, 3) := dk_181 0 39 (dk_at dksX3_init_4 11 rfl rfl)
theorem dX3_init_108 : decode cX3_init 108 = .ok (.aload_n 0, 1) := dk_42 (dk_at dksX3_init_4 14 rfl rfl)
theorem dX3_init_109 : decode cX3_init 109 = .ok (.iconst 2, 1) := dk_5 (dk_at dksX3_init_4 15 rfl rfl)
theorem dX3_init_110 : decode cX3_init 110 = .ok (.newarray .int, 2) := dk_188_10 (dk_at dksX3_init_4 16 rfl rfl)
theorem dX3_init_112 : decode cX3_init 112 = .ok (.putfield 43, 3) := dk_181 0 43 (dk_at dksX3_init_4 18 rfl rfl)
theorem dX3_init_115 : decode cX3_init 115 = .ok (.aload_n 0, 1) := dk_42 (dk_at dksX3_init_4 21 rfl rfl)
theorem dX3_init_116 : decode cX3_init 116 = .ok (.iconst 2, 1) := dk_5 (dk_at dksX3_init_4 22 rfl rfl)
theorem dX3_init_117 : decode cX3_init 117 = .ok (.newarray .int, 2) := dk_188_10 (dk_at dksX3_init_5 0 rfl rfl)
theorem dX3_init_119 : decode cX3_init 119 = .ok (.putfield 46, 3) := dk_181 0 46 (dk_at dksX3_init_5 2 rfl rfl)
theorem dX3_init_122 : decode cX3_init 122 = .ok (.aload_n 0, 1) := dk_42 (dk_at dksX3_init_5 5 rfl rfl)
theorem dX3_init_123 : decode cX3_init 123 = .ok (.iconst 2, 1) := dk_5 (dk_at dksX3_init_5 6 rfl rfl)
theorem dX3_init_124 : decode cX3_init 124 = .ok (.newarray .int, 2) := dk_188_10 (dk_at dksX3_init_5 7 rfl rfl)
theorem dX3_init_126 : decode cX3_init 126 = .ok (.putfield 49, 3) := dk_181 0 49 (dk_at dksX3_init_5 9 rfl rfl)
theorem dX3_init_129 : decode cX3_init 129 = .ok (.aload_n 0, 1) := dk_42 (dk_at dksX3_init_5 12 rfl rfl)
theorem dX3_init_130 : decode cX3_init 130 = .ok (.iconst 2, 1) := dk_5 (dk_at dksX3_init_5 13 rfl rfl)
theorem dX3_init_131 : decode cX3_init 131 = .ok (.newarray .int, 2) := dk_188_10 (dk_at dksX3_init_5 14 rfl rfl)
theorem dX3_init_133 : decode cX3_init 133 = .ok (.putfield 52, 3) := dk_181 0 52 (dk_at dksX3_init_5 16 rfl rfl)
theorem dX3_init_136 : decode cX3_init 136 = .ok (.aload_n 0, 1) := dk_42 (dk_at dksX3_init_5 19 rfl rfl)
theorem dX3_init_137 : decode cX3_init 137 = .ok (.iconst 4, 1) := dk_7 (dk_at dksX3_init_5 20 rfl rfl)
theorem dX3_init_138 : decode cX3_init 138 = .ok (.anewarray 55, 3) := dk_189 0 55 (dk_at dksX3_init_5 21 rfl rfl)
theorem dX3_init_141 : decode cX3_init 141 = .ok (.dup, 1) := dk_89 (dk_at dksX3_init_6 0 rfl rfl)
theorem dX3_init_142 : decode cX3_init 142 = .ok (.iconst 0, 1) := dk_3 (dk_at dksX3_init_6 1 rfl rfl)
theorem dX3_init_143 : decode cX3_init 143 = .ok (.ldc 57, 2) := dk_18 57 (dk_at dksX3_init_6 2 rfl rfl)
theorem dX3_init_145 : decode cX3_init 145 = .ok (.aastore, 1) := dk_83 (dk_at dksX3_init_6 4 rfl rfl)
theorem dX3_init_146 : decode cX3_init 146 = .ok (.dup, 1) := dk_89 (dk_at dksX3_init_6 5 rfl rfl)
theorem dX3_init_147 : decode cX3_init 147 = .ok (.iconst 1, 1) := dk_4 (dk_at dksX3_init_6 6 rfl rfl)
theorem dX3_init_148 : decode cX3_init 148 = .ok (.ldc 59, 2) := dk_18 59 (dk_at dksX3_init_6 7 rfl rfl)
theorem dX3_init_150 : decode cX3_init 150 = .ok (.aastore, 1) := dk_83 (dk_at dksX3_init_6 9 rfl rfl)
theorem dX3_init_151 : decode cX3_init 151 = .ok (.dup, 1) := dk_89 (dk_at dksX3_init_6 10 rfl rfl)
theorem dX3_init_152 : decode cX3_init 152 = .ok (.iconst 2, 1) := dk_5 (dk_at dksX3_init_6 11 rfl rfl)
theorem dX3_init_153 : decode cX3_init 153 = .ok (.ldc 61, 2) := dk_18 61 (dk_at dksX3_init_6 12 rfl rfl)
theorem dX3_init_155 : decode cX3_init 155 = .ok (.aastore, 1) := dk_83 (dk_at dksX3_init_6 14 rfl rfl)
theorem dX3_init_156 : decode cX3_init 156 = .ok (.dup, 1) := dk_89 (dk_at dksX3_init_6 15 rfl rfl)
theorem dX3_init_157 : decode cX3_init 157 = .ok (.iconst 3, 1) := dk_6 (dk_at dksX3_init_6 16 rfl rfl)
theorem dX3_init_158 : decode cX3_init 158 = .ok (.ldc 63, 2) := dk_18 63 (dk_at dksX3_init_6 17 rfl rfl)
theorem dX3_init_160 : decode cX3_init 160 = .ok (.aastore, 1) := dk_83 (dk_at dksX3_init_6 19 rfl rfl)
theorem dX3_init_161 : decode cX3_init 161 = .ok (.putfield 65, 3) := dk_181 0 65 (dk_at dksX3_init_6 20 rfl rfl)
theorem dX3_init_164 : decode cX3_init 164 = .ok (.aload_n 0, 1) := dk_42 (dk_at dksX3_init_6 23 rfl rfl)
theorem dX3_init_165 : decode cX3_init 165 = .ok (.bipush 105, 2) := dk_16 105 (dk_at dksX3_init_7 0 rfl rfl)
theorem dX3_init_167 : decode cX3_init 167 = .ok (.newarray .int, 2) := dk_188_10 (dk_at dksX3_init_7 2 rfl rfl)
theorem dX3_init_169 : decode cX3_init 169 = .ok (.putfield 69, 3) := dk_181 0 69 (dk_at dksX3_init_7 4 rfl rfl)
theorem dX3_init_172 : decode cX3_init 172 = .ok (.aload_n 0, 1) := dk_42 (dk_at dksX3_init_7 7 rfl rfl)
theorem dX3_init_173 : decode cX3_init 173 = .ok (.bipush 105, 2) := dk_16 105 (dk_at dksX3_init_7 8 rfl rfl)
theorem dX3_init_175 : decode cX3_init 175 = .ok (.newarray .int, 2) := dk_188_10 (dk_at dksX3_init_7 10 rfl rfl)
theorem dX3_init_177 : decode cX3_init 177 = .ok (.putfield 72, 3) := dk_181 0 72 (dk_at dksX3_init_7 12 rfl rfl)
theorem dX3_init_180 : decode cX3_init 180 = .ok (.aload_n 0, 1) := dk_42 (dk_at dksX3_init_7 15 rfl rfl)
theorem dX3_init_181 : decode cX3_init 181 = .ok (.bipush 105, 2) := dk_16 105 (dk_at dksX3_init_7 16 rfl rfl)
theorem dX3_init_183 : decode cX3_init 183 = .ok (.newarray .int, 2) := dk_188_10 (dk_at dksX3_init_7 18 rfl rfl)
theorem dX3_init_185 : decode cX3_init 185 = .ok (.putfield 75, 3) := dk_181 0 75 (dk_at dksX3_init_7 20 rfl rfl)
theorem dX3_init_188 : decode cX3_init 188 = .ok (.aload_n 0, 1) := dk_42 (dk_at dksX3_init_7 23 rfl rfl)
theorem dX3_init_189 : decode cX3_init 189 = .ok (.sipush 5600, 3) := dk_17 21 224 (dk_at dksX3_init_8 0 rfl rfl)
theorem dX3_init_192 : decode cX3_init 192 = .ok (.newarray .long, 2) := dk_188_11 (dk_at dksX3_init_8 3 rfl rfl)
theorem dX3_init_194 : decode cX3_init 194 = .ok (.putfield 78, 3) := dk_181 0 78 (dk_at dksX3_init_8 5 rfl rfl)
theorem dX3_init_197 : decode cX3_init 197 = .ok (.aload_n 0, 1) := dk_42 (dk_at dksX3_init_8 8 rfl rfl)
theorem dX3_init_198 : decode cX3_init 198 = .ok (.sipush 5600, 3) := dk_17 21 224 (dk_at dksX3_init_8 9 rfl rfl)
theorem dX3_init_201 : decode cX3_init 201 = .ok (.newarray .long, 2) := dk_188_11 (dk_at dksX3_init_8 12 rfl rfl)
theorem dX3_init_203 : decode cX3_init 203 = .ok (.putfield 82, 3) := dk_181 0 82 (dk_at dksX3_init_8 14 rfl rfl)
theorem dX3_init_206 : decode cX3_init 206 = .ok (.aload_n 0, 1) := dk_42 (dk_at dksX3_init_8 17 rfl rfl)
theorem dX3_init_207 : decode cX3_init 207 = .ok (.sipush 5600, 3) := dk_17 21 224 (dk_at dksX3_init_8 18 rfl rfl)
theorem dX3_init_210 : decode cX3_init 210 = .ok (.newarray .long, 2) := dk_188_11 (dk_at dksX3_init_8 21 rfl rfl)
theorem dX3_init_212 : decode cX3_init 212 = .ok (.putfield 85, 3) := dk_181 0 85 (dk_at dksX3_init_9 0 rfl rfl)
theorem dX3_init_215 : decode cX3_init 215 = .ok (.aload_n 0, 1) := dk_42 (dk_at dksX3_init_9 3 rfl rfl)
theorem dX3_init_216 : decode cX3_init 216 = .ok (.sipush 10000, 3) := dk_17 39 16 (dk_at dksX3_init_9 4 rfl rfl)
theorem dX3_init_219 : decode cX3_init 219 = .ok (.newarray .int, 2) := dk_188_10 (dk_at dksX3_init_9 7 rfl rfl)
theorem dX3_init_221 : decode cX3_init 221 = .ok (.putfield 88, 3) := dk_181 0 88 (dk_at dksX3_init_9 9 rfl rfl)
theorem dX3_init_224 : decode cX3_init 224 = .ok (.aload_n 0, 1) := dk_42 (dk_at dksX3_init_9 12 rfl rfl)
theorem dX3_init_225 : decode cX3_init 225 = .ok (.sipush 10000, 3) := dk_17 39 16 (dk_at dksX3_init_9 13 rfl rfl)
theorem dX3_init_228 : decode cX3_init 228 = .ok (.newarray .int, 2) := dk_188_10 (dk_at dksX3_init_9 16 rfl rfl)
theorem dX3_init_230 : decode cX3_init 230 = .ok (.putfield 91, 3) := dk_181 0 91 (dk_at dksX3_init_9 18 rfl rfl)
theorem dX3_init_233 : decode cX3_init 233 = .ok (.aload_n 0, 1) := dk_42 (dk_at dksX3_init_9 21 rfl rfl)
theorem dX3_init_234 : decode cX3_init 234 = .ok (.bipush 20, 2) := dk_16 20 (dk_at dksX3_init_9 22 rfl rfl)
theorem dX3_init_236 : decode cX3_init 236 = .ok (.newarray .int, 2) := dk_188_10 (dk_at dksX3_init_10 0 rfl rfl)
theorem dX3_init_238 : decode cX3_init 238 = .ok (.putfield 94, 3) := dk_181 0 94 (dk_at dksX3_init_10 2 rfl rfl)
theorem dX3_init_241 : decode cX3_init 241 = .ok (.aload_n 0, 1) := dk_42 (dk_at dksX3_init_10 5 rfl rfl)
theorem dX3_init_242 : decode cX3_init 242 = .ok (.bipush 8, 2) := dk_16 8 (dk_at dksX3_init_10 6 rfl rfl)
theorem dX3_init_244 : decode cX3_init 244 = .ok (.bipush 8, 2) := dk_16 8 (dk_at dksX3_init_10 8 rfl rfl)
theorem dX3_init_246 : decode cX3_init 246 = .ok (.multianewarray 97 2, 4) := by decide +kernel
theorem dX3_init_250 : decode cX3_init 250 = .ok (.putfield 99, 3) := dk_181 0 99 (dk_at dksX3_init_10 14 rfl rfl)
theorem dX3_init_253 : decode cX3_init 253 = .ok (.aload_n 0, 1) := dk_42 (dk_at dksX3_init_10 17 rfl rfl)
theorem dX3_init_254 : decode cX3_init 254 = .ok (.bipush 8, 2) := dk_16 8 (dk_at dksX3_init_10 18 rfl rfl)
theorem dX3_init_256 : decode cX3_init 256 = .ok (.newarray .long, 2) := dk_188_11 (dk_at dksX3_init_10 20 rfl rfl)
theorem dX3_init_258 : decode cX3_init 258 = .ok (.putfield 102, 3) := dk_181 0 102 (dk_at dksX3_init_11 0 rfl rfl)
theorem dX3_init_261 : decode cX3_init 261 = .ok (.aload_n 0, 1) := dk_42 (dk_at dksX3_init_11 3 rfl rfl)
theorem dX3_init_262 : decode cX3_init 262 = .ok (.bipush 15, 2) := dk_16 15 (dk_at dksX3_init_11 4 rfl rfl)
theorem dX3_init_264 : decode cX3_init 264 = .ok (.newarray .int, 2) := dk_188_10 (dk_at dksX3_init_11 6 rfl rfl)
theorem dX3_init_266 : decode cX3_init 266 = .ok (.putfield 105, 3) := dk_181 0 105 (dk_at dksX3_init_11 8 rfl rfl)
theorem dX3_init_269 : decode cX3_init 269 = .ok (.aload_n 0, 1) := dk_42 (dk_at dksX3_init_11 11 rfl rfl)
theorem dX3_init_270 : decode cX3_init 270 = .ok (.bipush 15, 2) := dk_16 15 (dk_at dksX3_init_11 12 rfl rfl)
theorem dX3_init_272 : decode cX3_init 272 = .ok (.newarray .int, 2) := dk_188_10 (dk_at dksX3_init_11 14 rfl rfl)
theorem dX3_init_274 : decode cX3_init 274 = .ok (.putfield 108, 3) := dk_181 0 108 (dk_at dksX3_init_11 16 rfl rfl)
theorem dX3_init_277 : decode cX3_init 277 = .ok (.aload_n 0, 1) := dk_42 (dk_at dksX3_init_11 19 rfl rfl)
theorem dX3_init_278 : decode cX3_init 278 = .ok (.bipush 40, 2) := dk_16 40 (dk_at dksX3_init_11 20 rfl rfl)
theorem dX3_init_280 : decode cX3_init 280 = .ok (.bipush 9, 2) := dk_16 9 (dk_at dksX3_init_11 22 rfl rfl)
theorem dX3_init_282 : decode cX3_init 282 = .ok (.multianewarray 13 2, 4) := by decide +kernel
theorem dX3_init_286 : decode cX3_init 286 = .ok (.putfield 111, 3) := dk_181 0 111 (dk_at dksX3_init_12 4 rfl rfl)
theorem dX3_init_289 : decode cX3_init 289 = .ok (.return_, 1) := dk_177 (dk_at dksX3_init_12 7 rfl rfl)
def dkwX3_feed_2 : List UInt8 := [172]
abbrev dktX3_feed_2 : List UInt8 := dkwX3_feed_2 ++ []
def dkwX3_feed_1 : List UInt8 := [182, 0, 118, 42, 29, 182, 0, 118, 42, 21, 4, 182, 0, 118, 42, 21, 5, 182, 0, 118, 42, 180, 0, 114]
abbrev dktX3_feed_1 : List UInt8 := dkwX3_feed_1 ++ dktX3_feed_2
def dkwX3_feed_0 : List UInt8 := [42, 180, 0, 114, 16, 20, 96, 17, 2, 88, 164, 0, 5, 2, 172, 42, 27, 182, 0, 118, 42, 28]
abbrev dktX3_feed_0 : List UInt8 := dkwX3_feed_0 ++ dktX3_feed_1
theorem dksX3_feed_0 : cX3_feed.data.toList.drop 0 = dktX3_feed_0 := by decide +kernel
theorem dksX3_feed_1 : cX3_feed.data.toList.drop 22 = dktX3_feed_1 := dk_seg dksX3_feed_0 22 rfl rfl
theorem dksX3_feed_2 : cX3_feed.data.toList.drop 46 = dktX3_feed_2 := dk_seg dksX3_feed_1 24 rfl rfl
theorem dX3_feed_0 : decode cX3_feed 0 = .ok (.aload_n 0, 1) := dk_42 (dk_at dksX3_feed_0 0 rfl rfl)
theorem dX3_feed_1 : decode cX3_feed 1 = .ok (.getfield 114, 3) := dk_180 0 114 (dk_at dksX3_feed_0 1 rfl rfl)
theorem dX3_feed_4 : decode cX3_feed 4 = .ok (.bipush 20, 2) := dk_16 20 (dk_at dksX3_feed_0 4 rfl rfl)
theorem dX3_feed_6 : decode cX3_feed 6 = .ok (.iadd, 1) := dk_96 (dk_at dksX3_feed_0 6 rfl rfl)
theorem dX3_feed_7 : decode cX3_feed 7 = .ok (.sipush 600, 3) := dk_17 2 88 (dk_at dksX3_feed_0 7 rfl rfl)
theorem dX3_feed_10 : decode cX3_feed 10 = .ok (.if_icmp .le 5, 3) := dk_164 0 5 (dk_at dksX3_feed_0 10 rfl rfl)
theorem dX3_feed_13 : decode cX3_feed 13 = .ok (.iconst (-1), 1) := dk_2 (dk_at dksX3_feed_0 13 rfl rfl)
theorem dX3_feed_14 : decode cX3_feed 14 = .ok (.ireturn, 1) := dk_172 (dk_at dksX3_feed_0 14 rfl rfl)
theorem dX3_feed_15 : decode cX3_feed 15 = .ok (.aload_n 0, 1) := dk_42 (dk_at dksX3_feed_0 15 rfl rfl)
theorem dX3_feed_16 : decode cX3_feed 16 = .ok (.iload_n 1, 1) := dk_27 (dk_at dksX3_feed_0 16 rfl rfl)
theorem dX3_feed_17 : decode cX3_feed 17 = .ok (.invokevirtual 118, 3) := dk_182 0 118 (dk_at dksX3_feed_0 17 rfl rfl)
theorem dX3_feed_20 : decode cX3_feed 20 = .ok (.aload_n 0, 1) := dk_42 (dk_at dksX3_feed_0 20 rfl rfl)
theorem dX3_feed_21 : decode cX3_feed 21 = .ok (.iload_n 2, 1) := dk_28 (dk_at dksX3_feed_0 21 rfl rfl)
theorem dX3_feed_22 : decode cX3_feed 22 = .ok (.invokevirtual 118, 3) := dk_182 0 118 (dk_at dksX3_feed_1 0 rfl rfl)
theorem dX3_feed_25 : decode cX3_feed 25 = .ok (.aload_n 0, 1) := dk_42 (dk_at dksX3_feed_1 3 rfl rfl)
theorem dX3_feed_26 : decode cX3_feed 26 = .ok (.iload_n 3, 1) := dk_29 (dk_at dksX3_feed_1 4 rfl rfl)
theorem dX3_feed_27 : decode cX3_feed 27 = .ok (.invokevirtual 118, 3) := dk_182 0 118 (dk_at dksX3_feed_1 5 rfl rfl)
theorem dX3_feed_30 : decode cX3_feed 30 = .ok (.aload_n 0, 1) := dk_42 (dk_at dksX3_feed_1 8 rfl rfl)
theorem dX3_feed_31 : decode cX3_feed 31 = .ok (.iload 4, 2) := dk_21 4 (dk_at dksX3_feed_1 9 rfl rfl)
theorem dX3_feed_33 : decode cX3_feed 33 = .ok (.invokevirtual 118, 3) := dk_182 0 118 (dk_at dksX3_feed_1 11 rfl rfl)
theorem dX3_feed_36 : decode cX3_feed 36 = .ok (.aload_n 0, 1) := dk_42 (dk_at dksX3_feed_1 14 rfl rfl)
theorem dX3_feed_37 : decode cX3_feed 37 = .ok (.iload 5, 2) := dk_21 5 (dk_at dksX3_feed_1 15 rfl rfl)
theorem dX3_feed_39 : decode cX3_feed 39 = .ok (.invokevirtual 118, 3) := dk_182 0 118 (dk_at dksX3_feed_1 17 rfl rfl)
theorem dX3_feed_42 : decode cX3_feed 42 = .ok (.aload_n 0, 1) := dk_42 (dk_at dksX3_feed_1 20 rfl rfl)
theorem dX3_feed_43 : decode cX3_feed 43 = .ok (.getfield 114, 3) := dk_180 0 114 (dk_at dksX3_feed_1 21 rfl rfl)
theorem dX3_feed_46 : decode cX3_feed 46 = .ok (.ireturn, 1) := dk_172 (dk_at dksX3_feed_2 0 rfl rfl)
def dkwX3_feeds_1 : List UInt8 := [180, 0, 114, 4, 96, 181, 0, 114, 132, 2, 255, 167, 255, 223, 177]
abbrev dktX3_feeds_1 : List UInt8 := dkwX3_feeds_1 ++ []
def dkwX3_feeds_0 : List UInt8 := [6, 61, 28, 155, 0, 35, 42, 180, 0, 9, 42, 180, 0, 114, 27, 16, 8, 28, 104, 124, 145, 84, 42, 89]
abbrev dktX3_feeds_0 : List UInt8 := dkwX3_feeds_0 ++ dktX3_feeds_1
theorem dksX3_feeds_0 : cX3_feeds.data.toList.drop 0 = dktX3_feeds_0 := by decide +kernel
theorem dksX3_feeds_1 : cX3_feeds.data.toList.drop 24 = dktX3_feeds_1 := dk_seg dksX3_feeds_0 24 rfl rfl
theorem dX3_feeds_0 : decode cX3_feeds 0 = .ok (.iconst 3, 1) := dk_6 (dk_at dksX3_feeds_0 0 rfl rfl)
theorem dX3_feeds_1 : decode cX3_feeds 1 = .ok (.istore_n 2, 1) := dk_61 (dk_at dksX3_feeds_0 1 rfl rfl)
theorem dX3_feeds_2 : decode cX3_feeds 2 = .ok (.iload_n 2, 1) := dk_28 (dk_at dksX3_feeds_0 2 rfl rfl)
theorem dX3_feeds_3 : decode cX3_feeds 3 = .ok (.ifCond .lt 35, 3) := dk_155 0 35 (dk_at dksX3_feeds_0 3 rfl rfl)
theorem dX3_feeds_6 : decode cX3_feeds 6 = .ok (.aload_n 0, 1) := dk_42 (dk_at dksX3_feeds_0 6 rfl rfl)
theorem dX3_feeds_7 : decode cX3_feeds 7 = .ok (.getfield 9, 3) := dk_180 0 9 (dk_at dksX3_feeds_0 7 rfl rfl)
theorem dX3_feeds_10 : decode cX3_feeds 10 = .ok (.aload_n 0, 1) := dk_42 (dk_at dksX3_feeds_0 10 rfl rfl)
theorem dX3_feeds_11 : decode cX3_feeds 11 = .ok (.getfield 114, 3) := dk_180 0 114 (dk_at dksX3_feeds_0 11 rfl rfl)
theorem dX3_feeds_14 : decode cX3_feeds 14 = .ok (.iload_n 1, 1) := dk_27 (dk_at dksX3_feeds_0 14 rfl rfl)
theorem dX3_feeds_15 : decode cX3_feeds 15 = .ok (.bipush 8, 2) := dk_16 8 (dk_at dksX3_feeds_0 15 rfl rfl)
theorem dX3_feeds_17 : decode cX3_feeds 17 = .ok (.iload_n 2, 1) := dk_28 (dk_at dksX3_feeds_0 17 rfl rfl)
theorem dX3_feeds_18 : decode cX3_feeds 18 = .ok (.imul, 1) := dk_104 (dk_at dksX3_feeds_0 18 rfl rfl)
theorem dX3_feeds_19 : decode cX3_feeds 19 = .ok (.iushr, 1) := dk_124 (dk_at dksX3_feeds_0 19 rfl rfl)
theorem dX3_feeds_20 : decode cX3_feeds 20 = .ok (.i2b, 1) := dk_145 (dk_at dksX3_feeds_0 20 rfl rfl)
theorem dX3_feeds_21 : decode cX3_feeds 21 = .ok (.bastore, 1) := dk_84 (dk_at dksX3_feeds_0 21 rfl rfl)
theorem dX3_feeds_22 : decode cX3_feeds 22 = .ok (.aload_n 0, 1) := dk_42 (dk_at dksX3_feeds_0 22 rfl rfl)
theorem dX3_feeds_23 : decode cX3_feeds 23 = .ok (.dup, 1) := dk_89 (dk_at dksX3_feeds_0 23 rfl rfl)
theorem dX3_feeds_24 : decode cX3_feeds 24 = .ok (.getfield 114, 3) := dk_180 0 114 (dk_at dksX3_feeds_1 0 rfl rfl)
theorem dX3_feeds_27 : decode cX3_feeds 27 = .ok (.iconst 1, 1) := dk_4 (dk_at dksX3_feeds_1 3 rfl rfl)
theorem dX3_feeds_28 : decode cX3_feeds 28 = .ok (.iadd, 1) := dk_96 (dk_at dksX3_feeds_1 4 rfl rfl)
theorem dX3_feeds_29 : decode cX3_feeds 29 = .ok (.putfield 114, 3) := dk_181 0 114 (dk_at dksX3_feeds_1 5 rfl rfl)
theorem dX3_feeds_32 : decode cX3_feeds 32 = .ok (.iinc 2 (-1), 3) := dk_132 2 255 (dk_at dksX3_feeds_1 8 rfl rfl)
theorem dX3_feeds_35 : decode cX3_feeds 35 = .ok (.goto (-33), 3) := dk_167 255 223 (dk_at dksX3_feeds_1 11 rfl rfl)
theorem dX3_feeds_38 : decode cX3_feeds 38 = .ok (.return_, 1) := dk_177 (dk_at dksX3_feeds_1 14 rfl rfl)
def dkwX3_end_0 : List UInt8 := [27, 133, 9, 42, 180, 0, 114, 133, 184, 0, 122, 154, 0, 5, 3, 172, 42, 27, 181, 0, 114, 4, 172]
abbrev dktX3_end_0 : List UInt8 := dkwX3_end_0 ++ []
theorem dksX3_end_0 : cX3_end.data.toList.drop 0 = dktX3_end_0 := by decide +kernel
theorem dX3_end_0 : decode cX3_end 0 = .ok (.iload_n 1, 1) := dk_27 (dk_at dksX3_end_0 0 rfl rfl)
theorem dX3_end_1 : decode cX3_end 1 = .ok (.i2l, 1) := dk_133 (dk_at dksX3_end_0 1 rfl rfl)
theorem dX3_end_2 : decode cX3_end 2 = .ok (.lconst 0, 1) := dk_9 (dk_at dksX3_end_0 2 rfl rfl)
theorem dX3_end_3 : decode cX3_end 3 = .ok (.aload_n 0, 1) := dk_42 (dk_at dksX3_end_0 3 rfl rfl)
theorem dX3_end_4 : decode cX3_end 4 = .ok (.getfield 114, 3) := dk_180 0 114 (dk_at dksX3_end_0 4 rfl rfl)
theorem dX3_end_7 : decode cX3_end 7 = .ok (.i2l, 1) := dk_133 (dk_at dksX3_end_0 7 rfl rfl)
theorem dX3_end_8 : decode cX3_end 8 = .ok (.invokestatic 122, 3) := dk_184 0 122 (dk_at dksX3_end_0 8 rfl rfl)
theorem dX3_end_11 : decode cX3_end 11 = .ok (.ifCond .ne 5, 3) := dk_154 0 5 (dk_at dksX3_end_0 11 rfl rfl)
theorem dX3_end_14 : decode cX3_end 14 = .ok (.iconst 0, 1) := dk_3 (dk_at dksX3_end_0 14 rfl rfl)
theorem dX3_end_15 : decode cX3_end 15 = .ok (.ireturn, 1) := dk_172 (dk_at dksX3_end_0 15 rfl rfl)
theorem dX3_end_16 : decode cX3_end 16 = .ok (.aload_n 0, 1) := dk_42 (dk_at dksX3_end_0 16 rfl rfl)
theorem dX3_end_17 : decode cX3_end 17 = .ok (.iload_n 1, 1) := dk_27 (dk_at dksX3_end_0 17 rfl rfl)
theorem dX3_end_18 : decode cX3_end 18 = .ok (.putfield 114, 3) := dk_181 0 114 (dk_at dksX3_end_0 18 rfl rfl)
theorem dX3_end_21 : decode cX3_end 21 = .ok (.iconst 1, 1) := dk_4 (dk_at dksX3_end_0 21 rfl rfl)
theorem dX3_end_22 : decode cX3_end 22 = .ok (.ireturn, 1) := dk_172 (dk_at dksX3_end_0 22 rfl rfl)
def dkwX3_in_0 : List UInt8 := [30, 32, 148, 155, 0, 14, 30, 22, 4, 148, 157, 0, 7, 4, 167, 0, 4, 3, 172]
abbrev dktX3_in_0 : List UInt8 := dkwX3_in_0 ++ []
theorem dksX3_in_0 : cX3_in.data.toList.drop 0 = dktX3_in_0 := by decide +kernel
theorem dX3_in_0 : decode cX3_in 0 = .ok (.lload_n 0, 1) := dk_30 (dk_at dksX3_in_0 0 rfl rfl)
theorem dX3_in_1 : decode cX3_in 1 = .ok (.lload_n 2, 1) := dk_32 (dk_at dksX3_in_0 1 rfl rfl)
theorem dX3_in_2 : decode cX3_in 2 = .ok (.lcmp, 1) := dk_148 (dk_at dksX3_in_0 2 rfl rfl)
theorem dX3_in_3 : decode cX3_in 3 = .ok (.ifCond .lt 14, 3) := dk_155 0 14 (dk_at dksX3_in_0 3 rfl rfl)
theorem dX3_in_6 : decode cX3_in 6 = .ok (.lload_n 0, 1) := dk_30 (dk_at dksX3_in_0 6 rfl rfl)
theorem dX3_in_7 : decode cX3_in 7 = .ok (.lload 4, 2) := dk_22 4 (dk_at dksX3_in_0 7 rfl rfl)
theorem dX3_in_9 : decode cX3_in 9 = .ok (.lcmp, 1) := dk_148 (dk_at dksX3_in_0 9 rfl rfl)
theorem dX3_in_10 : decode cX3_in 10 = .ok (.ifCond .gt 7, 3) := dk_157 0 7 (dk_at dksX3_in_0 10 rfl rfl)
theorem dX3_in_13 : decode cX3_in 13 = .ok (.iconst 1, 1) := dk_4 (dk_at dksX3_in_0 13 rfl rfl)
theorem dX3_in_14 : decode cX3_in 14 = .ok (.goto 4, 3) := dk_167 0 4 (dk_at dksX3_in_0 14 rfl rfl)
theorem dX3_in_17 : decode cX3_in 17 = .ok (.iconst 0, 1) := dk_3 (dk_at dksX3_in_0 17 rfl rfl)
theorem dX3_in_18 : decode cX3_in 18 = .ok (.ireturn, 1) := dk_172 (dk_at dksX3_in_0 18 rfl rfl)
def dkwX3_fault_0 : List UInt8 := [42, 182, 0, 228, 42, 180, 0, 147, 172]
abbrev dktX3_fault_0 : List UInt8 := dkwX3_fault_0 ++ []
theorem dksX3_fault_0 : cX3_fault.data.toList.drop 0 = dktX3_fault_0 := by decide +kernel
theorem dX3_fault_0 : decode cX3_fault 0 = .ok (.aload_n 0, 1) := dk_42 (dk_at dksX3_fault_0 0 rfl rfl)
theorem dX3_fault_1 : decode cX3_fault 1 = .ok (.invokevirtual 228, 3) := dk_182 0 228 (dk_at dksX3_fault_0 1 rfl rfl)
theorem dX3_fault_4 : decode cX3_fault 4 = .ok (.aload_n 0, 1) := dk_42 (dk_at dksX3_fault_0 4 rfl rfl)
theorem dX3_fault_5 : decode cX3_fault 5 = .ok (.getfield 147, 3) := dk_180 0 147 (dk_at dksX3_fault_0 5 rfl rfl)
theorem dX3_fault_8 : decode cX3_fault 8 = .ok (.ireturn, 1) := dk_172 (dk_at dksX3_fault_0 8 rfl rfl)
def dkwX3_reads_4 : List UInt8 := [153, 0, 20, 42, 180, 0, 39, 4, 46, 154, 0, 11, 42, 42, 180, 0, 114, 181, 0, 147, 177]
abbrev dktX3_reads_4 : List UInt8 := dkwX3_reads_4 ++ []
def dkwX3_reads_3 : List UInt8 := [27, 153, 0, 22, 42, 180, 0, 126, 42, 180, 0, 114, 162, 0, 11, 42, 182, 0, 225, 60, 167, 255, 236, 27]
abbrev dktX3_reads_3 : List UInt8 := dkwX3_reads_3 ++ dktX3_reads_4
def dkwX3_reads_2 : List UInt8 := [181, 0, 174, 42, 4, 181, 0, 177, 42, 3, 181, 0, 182, 42, 3, 181, 0, 126, 42, 182, 0, 150, 4, 60]
abbrev dktX3_reads_2 : List UInt8 := dkwX3_reads_2 ++ dktX3_reads_3
def dkwX3_reads_1 : List UInt8 := [3, 79, 42, 180, 0, 49, 4, 4, 79, 42, 180, 0, 52, 4, 5, 79, 42, 3, 181, 0, 164, 42, 4]
abbrev dktX3_reads_1 : List UInt8 := dkwX3_reads_1 ++ dktX3_reads_2
def dkwX3_reads_0 : List UInt8 := [42, 2, 181, 0, 147, 42, 180, 0, 39, 4, 3, 79, 42, 180, 0, 43, 4, 3, 79, 42, 180, 0, 46, 4]
abbrev dktX3_reads_0 : List UInt8 := dkwX3_reads_0 ++ dktX3_reads_1
theorem dksX3_reads_0 : cX3_reads.data.toList.drop 0 = dktX3_reads_0 := by decide +kernel
theorem dksX3_reads_1 : cX3_reads.data.toList.drop 24 = dktX3_reads_1 := dk_seg dksX3_reads_0 24 rfl rfl
theorem dksX3_reads_2 : cX3_reads.data.toList.drop 47 = dktX3_reads_2 := dk_seg dksX3_reads_1 23 rfl rfl
theorem dksX3_reads_3 : cX3_reads.data.toList.drop 71 = dktX3_reads_3 := dk_seg dksX3_reads_2 24 rfl rfl
theorem dksX3_reads_4 : cX3_reads.data.toList.drop 95 = dktX3_reads_4 := dk_seg dksX3_reads_3 24 rfl rfl
theorem dX3_reads_0 : decode cX3_reads 0 = .ok (.aload_n 0, 1) := dk_42 (dk_at dksX3_reads_0 0 rfl rfl)
theorem dX3_reads_1 : decode cX3_reads 1 = .ok (.iconst (-1), 1) := dk_2 (dk_at dksX3_reads_0 1 rfl rfl)
theorem dX3_reads_2 : decode cX3_reads 2 = .ok (.putfield 147, 3) := dk_181 0 147 (dk_at dksX3_reads_0 2 rfl rfl)
theorem dX3_reads_5 : decode cX3_reads 5 = .ok (.aload_n 0, 1) := dk_42 (dk_at dksX3_reads_0 5 rfl rfl)
theorem dX3_reads_6 : decode cX3_reads 6 = .ok (.getfield 39, 3) := dk_180 0 39 (dk_at dksX3_reads_0 6 rfl rfl)
theorem dX3_reads_9 : decode cX3_reads 9 = .ok (.iconst 1, 1) := dk_4 (dk_at dksX3_reads_0 9 rfl rfl)
theorem dX3_reads_10 : decode cX3_reads 10 = .ok (.iconst 0, 1) := dk_3 (dk_at dksX3_reads_0 10 rfl rfl)
theorem dX3_reads_11 : decode cX3_reads 11 = .ok (.iastore, 1) := dk_79 (dk_at dksX3_reads_0 11 rfl rfl)
theorem dX3_reads_12 : decode cX3_reads 12 = .ok (.aload_n 0, 1) := dk_42 (dk_at dksX3_reads_0 12 rfl rfl)
theorem dX3_reads_13 : decode cX3_reads 13 = .ok (.getfield 43, 3) := dk_180 0 43 (dk_at dksX3_reads_0 13 rfl rfl)
theorem dX3_reads_16 : decode cX3_reads 16 = .ok (.iconst 1, 1) := dk_4 (dk_at dksX3_reads_0 16 rfl rfl)
theorem dX3_reads_17 : decode cX3_reads 17 = .ok (.iconst 0, 1) := dk_3 (dk_at dksX3_reads_0 17 rfl rfl)
theorem dX3_reads_18 : decode cX3_reads 18 = .ok (.iastore, 1) := dk_79 (dk_at dksX3_reads_0 18 rfl rfl)
theorem dX3_reads_19 : decode cX3_reads 19 = .ok (.aload_n 0, 1) := dk_42 (dk_at dksX3_reads_0 19 rfl rfl)
theorem dX3_reads_20 : decode cX3_reads 20 = .ok (.getfield 46, 3) := dk_180 0 46 (dk_at dksX3_reads_0 20 rfl rfl)
theorem dX3_reads_23 : decode cX3_reads 23 = .ok (.iconst 1, 1) := dk_4 (dk_at dksX3_reads_0 23 rfl rfl)
theorem dX3_reads_24 : decode cX3_reads 24 = .ok (.iconst 0, 1) := dk_3 (dk_at dksX3_reads_1 0 rfl rfl)
theorem dX3_reads_25 : decode cX3_reads 25 = .ok (.iastore, 1) := dk_79 (dk_at dksX3_reads_1 1 rfl rfl)
theorem dX3_reads_26 : decode cX3_reads 26 = .ok (.aload_n 0, 1) := dk_42 (dk_at dksX3_reads_1 2 rfl rfl)
theorem dX3_reads_27 : decode cX3_reads 27 = .ok (.getfield 49, 3) := dk_180 0 49 (dk_at dksX3_reads_1 3 rfl rfl)
theorem dX3_reads_30 : decode cX3_reads 30 = .ok (.iconst 1, 1) := dk_4 (dk_at dksX3_reads_1 6 rfl rfl)
theorem dX3_reads_31 : decode cX3_reads 31 = .ok (.iconst 1, 1) := dk_4 (dk_at dksX3_reads_1 7 rfl rfl)
theorem dX3_reads_32 : decode cX3_reads 32 = .ok (.iastore, 1) := dk_79 (dk_at dksX3_reads_1 8 rfl rfl)
theorem dX3_reads_33 : decode cX3_reads 33 = .ok (.aload_n 0, 1) := dk_42 (dk_at dksX3_reads_1 9 rfl rfl)
theorem dX3_reads_34 : decode cX3_reads 34 = .ok (.getfield 52, 3) := dk_180 0 52 (dk_at dksX3_reads_1 10 rfl rfl)
theorem dX3_reads_37 : decode cX3_reads 37 = .ok (.iconst 1, 1) := dk_4 (dk_at dksX3_reads_1 13 rfl rfl)
theorem dX3_reads_38 : decode cX3_reads 38 = .ok (.iconst 2, 1) := dk_5 (dk_at dksX3_reads_1 14 rfl rfl)
theorem dX3_reads_39 : decode cX3_reads 39 = .ok (.iastore, 1) := dk_79 (dk_at dksX3_reads_1 15 rfl rfl)
theorem dX3_reads_40 : decode cX3_reads 40 = .ok (.aload_n 0, 1) := dk_42 (dk_at dksX3_reads_1 16 rfl rfl)
theorem dX3_reads_41 : decode cX3_reads 41 = .ok (.iconst 0, 1) := dk_3 (dk_at dksX3_reads_1 17 rfl rfl)
theorem dX3_reads_42 : decode cX3_reads 42 = .ok (.putfield 164, 3) := dk_181 0 164 (dk_at dksX3_reads_1 18 rfl rfl)
theorem dX3_reads_45 : decode cX3_reads 45 = .ok (.aload_n 0, 1) := dk_42 (dk_at dksX3_reads_1 21 rfl rfl)
theorem dX3_reads_46 : decode cX3_reads 46 = .ok (.iconst 1, 1) := dk_4 (dk_at dksX3_reads_1 22 rfl rfl)
theorem dX3_reads_47 : decode cX3_reads 47 = .ok (.putfield 174, 3) := dk_181 0 174 (dk_at dksX3_reads_2 0 rfl rfl)
theorem dX3_reads_50 : decode cX3_reads 50 = .ok (.aload_n 0, 1) := dk_42 (dk_at dksX3_reads_2 3 rfl rfl)
theorem dX3_reads_51 : decode cX3_reads 51 = .ok (.iconst 1, 1) := dk_4 (dk_at dksX3_reads_2 4 rfl rfl)
theorem dX3_reads_52 : decode cX3_reads 52 = .ok (.putfield 177, 3) := dk_181 0 177 (dk_at dksX3_reads_2 5 rfl rfl)
theorem dX3_reads_55 : decode cX3_reads 55 = .ok (.aload_n 0, 1) := dk_42 (dk_at dksX3_reads_2 8 rfl rfl)
theorem dX3_reads_56 : decode cX3_reads 56 = .ok (.iconst 0, 1) := dk_3 (dk_at dksX3_reads_2 9 rfl rfl)
theorem dX3_reads_57 : decode cX3_reads 57 = .ok (.putfield 182, 3) := dk_181 0 182 (dk_at dksX3_reads_2 10 rfl rfl)
theorem dX3_reads_60 : decode cX3_reads 60 = .ok (.aload_n 0, 1) := dk_42 (dk_at dksX3_reads_2 13 rfl rfl)
theorem dX3_reads_61 : decode cX3_reads 61 = .ok (.iconst 0, 1) := dk_3 (dk_at dksX3_reads_2 14 rfl rfl)
theorem dX3_reads_62 : decode cX3_reads 62 = .ok (.putfield 126, 3) := dk_181 0 126 (dk_at dksX3_reads_2 15 rfl rfl)
theorem dX3_reads_65 : decode cX3_reads 65 = .ok (.aload_n 0, 1) := dk_42 (dk_at dksX3_reads_2 18 rfl rfl)
theorem dX3_reads_66 : decode cX3_reads 66 = .ok (.invokevirtual 150, 3) := dk_182 0 150 (dk_at dksX3_reads_2 19 rfl rfl)
theorem dX3_reads_69 : decode cX3_reads 69 = .ok (.iconst 1, 1) := dk_4 (dk_at dksX3_reads_2 22 rfl rfl)
theorem dX3_reads_70 : decode cX3_reads 70 = .ok (.istore_n 1, 1) := dk_60 (dk_at dksX3_reads_2 23 rfl rfl)
theorem dX3_reads_71 : decode cX3_reads 71 = .ok (.iload_n 1, 1) := dk_27 (dk_at dksX3_reads_3 0 rfl rfl)
theorem dX3_reads_72 : decode cX3_reads 72 = .ok (.ifCond .eq 22, 3) := dk_153 0 22 (dk_at dksX3_reads_3 1 rfl rfl)
theorem dX3_reads_75 : decode cX3_reads 75 = .ok (.aload_n 0, 1) := dk_42 (dk_at dksX3_reads_3 4 rfl rfl)
theorem dX3_reads_76 : decode cX3_reads 76 = .ok (.getfield 126, 3) := dk_180 0 126 (dk_at dksX3_reads_3 5 rfl rfl)
theorem dX3_reads_79 : decode cX3_reads 79 = .ok (.aload_n 0, 1) := dk_42 (dk_at dksX3_reads_3 8 rfl rfl)
theorem dX3_reads_80 : decode cX3_reads 80 = .ok (.getfield 114, 3) := dk_180 0 114 (dk_at dksX3_reads_3 9 rfl rfl)
theorem dX3_reads_83 : decode cX3_reads 83 = .ok (.if_icmp .ge 11, 3) := dk_162 0 11 (dk_at dksX3_reads_3 12 rfl rfl)
theorem dX3_reads_86 : decode cX3_reads 86 = .ok (.aload_n 0, 1) := dk_42 (dk_at dksX3_reads_3 15 rfl rfl)
theorem dX3_reads_87 : decode cX3_reads 87 = .ok (.invokevirtual 225, 3) := dk_182 0 225 (dk_at dksX3_reads_3 16 rfl rfl)
theorem dX3_reads_90 : decode cX3_reads 90 = .ok (.istore_n 1, 1) := dk_60 (dk_at dksX3_reads_3 19 rfl rfl)
theorem dX3_reads_91 : decode cX3_reads 91 = .ok (.goto (-20), 3) := dk_167 255 236 (dk_at dksX3_reads_3 20 rfl rfl)
theorem dX3_reads_94 : decode cX3_reads 94 = .ok (.iload_n 1, 1) := dk_27 (dk_at dksX3_reads_3 23 rfl rfl)
theorem dX3_reads_95 : decode cX3_reads 95 = .ok (.ifCond .eq 20, 3) := dk_153 0 20 (dk_at dksX3_reads_4 0 rfl rfl)
theorem dX3_reads_98 : decode cX3_reads 98 = .ok (.aload_n 0, 1) := dk_42 (dk_at dksX3_reads_4 3 rfl rfl)
theorem dX3_reads_99 : decode cX3_reads 99 = .ok (.getfield 39, 3) := dk_180 0 39 (dk_at dksX3_reads_4 4 rfl rfl)
theorem dX3_reads_102 : decode cX3_reads 102 = .ok (.iconst 1, 1) := dk_4 (dk_at dksX3_reads_4 7 rfl rfl)
theorem dX3_reads_103 : decode cX3_reads 103 = .ok (.iaload, 1) := dk_46 (dk_at dksX3_reads_4 8 rfl rfl)
theorem dX3_reads_104 : decode cX3_reads 104 = .ok (.ifCond .ne 11, 3) := dk_154 0 11 (dk_at dksX3_reads_4 9 rfl rfl)
theorem dX3_reads_107 : decode cX3_reads 107 = .ok (.aload_n 0, 1) := dk_42 (dk_at dksX3_reads_4 12 rfl rfl)
theorem dX3_reads_108 : decode cX3_reads 108 = .ok (.aload_n 0, 1) := dk_42 (dk_at dksX3_reads_4 13 rfl rfl)
theorem dX3_reads_109 : decode cX3_reads 109 = .ok (.getfield 114, 3) := dk_180 0 114 (dk_at dksX3_reads_4 14 rfl rfl)
theorem dX3_reads_112 : decode cX3_reads 112 = .ok (.putfield 147, 3) := dk_181 0 147 (dk_at dksX3_reads_4 17 rfl rfl)
theorem dX3_reads_115 : decode cX3_reads 115 = .ok (.return_, 1) := dk_177 (dk_at dksX3_reads_4 20 rfl rfl)
def dkwX3_skips_8 : List UInt8 := [4, 96, 181, 0, 129, 177]
abbrev dktX3_skips_8 : List UInt8 := dkwX3_skips_8 ++ []
def dkwX3_skips_7 : List UInt8 := [184, 0, 136, 153, 0, 26, 42, 89, 180, 0, 129, 4, 96, 181, 0, 129, 167, 255, 220, 42, 42, 180, 0, 126]
abbrev dktX3_skips_7 : List UInt8 := dkwX3_skips_7 ++ dktX3_skips_8
def dkwX3_skips_6 : List UInt8 := [153, 0, 42, 42, 180, 0, 129, 42, 180, 0, 114, 162, 0, 41, 42, 180, 0, 9, 42, 180, 0, 129, 51]
abbrev dktX3_skips_6 : List UInt8 := dkwX3_skips_6 ++ dktX3_skips_7
def dkwX3_skips_5 : List UInt8 := [180, 0, 129, 4, 96, 181, 0, 129, 167, 255, 220, 42, 180, 0, 9, 42, 180, 0, 126, 51, 184, 0, 136]
abbrev dktX3_skips_5 : List UInt8 := dkwX3_skips_5 ++ dktX3_skips_6
def dkwX3_skips_4 : List UInt8 := [180, 0, 114, 162, 0, 95, 42, 180, 0, 9, 42, 180, 0, 129, 51, 184, 0, 132, 153, 0, 80, 42, 89]
abbrev dktX3_skips_4 : List UInt8 := dkwX3_skips_4 ++ dktX3_skips_5
def dkwX3_skips_3 : List UInt8 := [160, 0, 4, 177, 42, 180, 0, 9, 42, 180, 0, 126, 51, 184, 0, 132, 153, 0, 42, 42, 180, 0, 129, 42]
abbrev dktX3_skips_3 : List UInt8 := dkwX3_skips_3 ++ dktX3_skips_4
def dkwX3_skips_2 : List UInt8 := [181, 0, 126, 167, 255, 207, 42, 42, 180, 0, 126, 181, 0, 129, 42, 180, 0, 126, 42, 180, 0, 114]
abbrev dktX3_skips_2 : List UInt8 := dkwX3_skips_2 ++ dktX3_skips_3
def dkwX3_skips_1 : List UInt8 := [159, 0, 17, 42, 180, 0, 9, 42, 180, 0, 126, 51, 16, 10, 160, 0, 16, 42, 89, 180, 0, 126, 4, 96]
abbrev dktX3_skips_1 : List UInt8 := dkwX3_skips_1 ++ dktX3_skips_2
def dkwX3_skips_0 : List UInt8 := [42, 180, 0, 126, 42, 180, 0, 114, 162, 0, 44, 42, 180, 0, 9, 42, 180, 0, 126, 51, 16, 32]
abbrev dktX3_skips_0 : List UInt8 := dkwX3_skips_0 ++ dktX3_skips_1
theorem dksX3_skips_0 : cX3_skips.data.toList.drop 0 = dktX3_skips_0 := by decide +kernel
theorem dksX3_skips_1 : cX3_skips.data.toList.drop 22 = dktX3_skips_1 := dk_seg dksX3_skips_0 22 rfl rfl
theorem dksX3_skips_2 : cX3_skips.data.toList.drop 46 = dktX3_skips_2 := dk_seg dksX3_skips_1 24 rfl rfl
theorem dksX3_skips_3 : cX3_skips.data.toList.drop 68 = dktX3_skips_3 := dk_seg dksX3_skips_2 22 rfl rfl
theorem dksX3_skips_4 : cX3_skips.data.toList.drop 92 = dktX3_skips_4 := dk_seg dksX3_skips_3 24 rfl rfl
theorem dksX3_skips_5 : cX3_skips.data.toList.drop 115 = dktX3_skips_5 := dk_seg dksX3_skips_4 23 rfl rfl
theorem dksX3_skips_6 : cX3_skips.data.toList.drop 138 = dktX3_skips_6 := dk_seg dksX3_skips_5 23 rfl rfl
theorem dksX3_skips_7 : cX3_skips.data.toList.drop 161 = dktX3_skips_7 := dk_seg dksX3_skips_6 23 rfl rfl
theorem dksX3_skips_8 : cX3_skips.data.toList.drop 185 = dktX3_skips_8 := dk_seg dksX3_skips_7 24 rfl rfl
theorem dX3_skips_0 : decode cX3_skips 0 = .ok (.aload_n 0, 1) := dk_42 (dk_at dksX3_skips_0 0 rfl rfl)
theorem dX3_skips_1 : decode cX3_skips 1 = .ok (.getfield 126, 3) := dk_180 0 126 (dk_at dksX3_skips_0 1 rfl rfl)
theorem dX3_skips_4 : decode cX3_skips 4 = .ok (.aload_n 0, 1) := dk_42 (dk_at dksX3_skips_0 4 rfl rfl)
theorem dX3_skips_5 : decode cX3_skips 5 = .ok (.getfield 114, 3) := dk_180 0 114 (dk_at dksX3_skips_0 5 rfl rfl)
theorem dX3_skips_8 : decode cX3_skips 8 = .ok (.if_icmp .ge 44, 3) := dk_162 0 44 (dk_at dksX3_skips_0 8 rfl rfl)
theorem dX3_skips_11 : decode cX3_skips 11 = .ok (.aload_n 0, 1) := dk_42 (dk_at dksX3_skips_0 11 rfl rfl)
theorem dX3_skips_12 : decode cX3_skips 12 = .ok (.getfield 9, 3) := dk_180 0 9 (dk_at dksX3_skips_0 12 rfl rfl)
theorem dX3_skips_15 : decode cX3_skips 15 = .ok (.aload_n 0, 1) := dk_42 (dk_at dksX3_skips_0 15 rfl rfl)
theorem dX3_skips_16 : decode cX3_skips 16 = .ok (.getfield 126, 3) := dk_180 0 126 (dk_at dksX3_skips_0 16 rfl rfl)
theorem dX3_skips_19 : decode cX3_skips 19 = .ok (.baload, 1) := dk_51 (dk_at dksX3_skips_0 19 rfl rfl)
theorem dX3_skips_20 : decode cX3_skips 20 = .ok (.bipush 32, 2) := dk_16 32 (dk_at dksX3_skips_0 20 rfl rfl)
theorem dX3_skips_22 : decode cX3_skips 22 = .ok (.if_icmp .eq 17, 3) := dk_159 0 17 (dk_at dksX3_skips_1 0 rfl rfl)
theorem dX3_skips_25 : decode cX3_skips 25 = .ok (.aload_n 0, 1) := dk_42 (dk_at dksX3_skips_1 3 rfl rfl)
theorem dX3_skips_26 : decode cX3_skips 26 = .ok (.getfield 9, 3) := dk_180 0 9 (dk_at dksX3_skips_1 4 rfl rfl)
theorem dX3_skips_29 : decode cX3_skips 29 = .ok (.aload_n 0, 1) := dk_42 (dk_at dksX3_skips_1 7 rfl rfl)
theorem dX3_skips_30 : decode cX3_skips 30 = .ok (.getfield 126, 3) := dk_180 0 126 (dk_at dksX3_skips_1 8 rfl rfl)
theorem dX3_skips_33 : decode cX3_skips 33 = .ok (.baload, 1) := dk_51 (dk_at dksX3_skips_1 11 rfl rfl)
theorem dX3_skips_34 : decode cX3_skips 34 = .ok (.bipush 10, 2) := dk_16 10 (dk_at dksX3_skips_1 12 rfl rfl)
theorem dX3_skips_36 : decode cX3_skips 36 = .ok (.if_icmp .ne 16, 3) := dk_160 0 16 (dk_at dksX3_skips_1 14 rfl rfl)
theorem dX3_skips_39 : decode cX3_skips 39 = .ok (.aload_n 0, 1) := dk_42 (dk_at dksX3_skips_1 17 rfl rfl)
theorem dX3_skips_40 : decode cX3_skips 40 = .ok (.dup, 1) := dk_89 (dk_at dksX3_skips_1 18 rfl rfl)
theorem dX3_skips_41 : decode cX3_skips 41 = .ok (.getfield 126, 3) := dk_180 0 126 (dk_at dksX3_skips_1 19 rfl rfl)
theorem dX3_skips_44 : decode cX3_skips 44 = .ok (.iconst 1, 1) := dk_4 (dk_at dksX3_skips_1 22 rfl rfl)
theorem dX3_skips_45 : decode cX3_skips 45 = .ok (.iadd, 1) := dk_96 (dk_at dksX3_skips_1 23 rfl rfl)
theorem dX3_skips_46 : decode cX3_skips 46 = .ok (.putfield 126, 3) := dk_181 0 126 (dk_at dksX3_skips_2 0 rfl rfl)
theorem dX3_skips_49 : decode cX3_skips 49 = .ok (.goto (-49), 3) := dk_167 255 207 (dk_at dksX3_skips_2 3 rfl rfl)
theorem dX3_skips_52 : decode cX3_skips 52 = .ok (.aload_n 0, 1) := dk_42 (dk_at dksX3_skips_2 6 rfl rfl)
theorem dX3_skips_53 : decode cX3_skips 53 = .ok (.aload_n 0, 1) := dk_42 (dk_at dksX3_skips_2 7 rfl rfl)
theorem dX3_skips_54 : decode cX3_skips 54 = .ok (.getfield 126, 3) := dk_180 0 126 (dk_at dksX3_skips_2 8 rfl rfl)
theorem dX3_skips_57 : decode cX3_skips 57 = .ok (.putfield 129, 3) := dk_181 0 129 (dk_at dksX3_skips_2 11 rfl rfl)
theorem dX3_skips_60 : decode cX3_skips 60 = .ok (.aload_n 0, 1) := dk_42 (dk_at dksX3_skips_2 14 rfl rfl)
theorem dX3_skips_61 : decode cX3_skips 61 = .ok (.getfield 126, 3) := dk_180 0 126 (dk_at dksX3_skips_2 15 rfl rfl)
theorem dX3_skips_64 : decode cX3_skips 64 = .ok (.aload_n 0, 1) := dk_42 (dk_at dksX3_skips_2 18 rfl rfl)
theorem dX3_skips_65 : decode cX3_skips 65 = .ok (.getfield 114, 3) := dk_180 0 114 (dk_at dksX3_skips_2 19 rfl rfl)
theorem dX3_skips_68 : decode cX3_skips 68 = .ok (.if_icmp .ne 4, 3) := dk_160 0 4 (dk_at dksX3_skips_3 0 rfl rfl)
theorem dX3_skips_71 : decode cX3_skips 71 = .ok (.return_, 1) := dk_177 (dk_at dksX3_skips_3 3 rfl rfl)
theorem dX3_skips_72 : decode cX3_skips 72 = .ok (.aload_n 0, 1) := dk_42 (dk_at dksX3_skips_3 4 rfl rfl)
theorem dX3_skips_73 : decode cX3_skips 73 = .ok (.getfield 9, 3) := dk_180 0 9 (dk_at dksX3_skips_3 5 rfl rfl)
theorem dX3_skips_76 : decode cX3_skips 76 = .ok (.aload_n 0, 1) := dk_42 (dk_at dksX3_skips_3 8 rfl rfl)
theorem dX3_skips_77 : decode cX3_skips 77 = .ok (.getfield 126, 3) := dk_180 0 126 (dk_at dksX3_skips_3 9 rfl rfl)
theorem dX3_skips_80 : decode cX3_skips 80 = .ok (.baload, 1) := dk_51 (dk_at dksX3_skips_3 12 rfl rfl)
theorem dX3_skips_81 : decode cX3_skips 81 = .ok (.invokestatic 132, 3) := dk_184 0 132 (dk_at dksX3_skips_3 13 rfl rfl)
theorem dX3_skips_84 : decode cX3_skips 84 = .ok (.ifCond .eq 42, 3) := dk_153 0 42 (dk_at dksX3_skips_3 16 rfl rfl)
theorem dX3_skips_87 : decode cX3_skips 87 = .ok (.aload_n 0, 1) := dk_42 (dk_at dksX3_skips_3 19 rfl rfl)
theorem dX3_skips_88 : decode cX3_skips 88 = .ok (.getfield 129, 3) := dk_180 0 129 (dk_at dksX3_skips_3 20 rfl rfl)
theorem dX3_skips_91 : decode cX3_skips 91 = .ok (.aload_n 0, 1) := dk_42 (dk_at dksX3_skips_3 23 rfl rfl)
theorem dX3_skips_92 : decode cX3_skips 92 = .ok (.getfield 114, 3) := dk_180 0 114 (dk_at dksX3_skips_4 0 rfl rfl)
theorem dX3_skips_95 : decode cX3_skips 95 = .ok (.if_icmp .ge 95, 3) := dk_162 0 95 (dk_at dksX3_skips_4 3 rfl rfl)
theorem dX3_skips_98 : decode cX3_skips 98 = .ok (.aload_n 0, 1) := dk_42 (dk_at dksX3_skips_4 6 rfl rfl)
theorem dX3_skips_99 : decode cX3_skips 99 = .ok (.getfield 9, 3) := dk_180 0 9 (dk_at dksX3_skips_4 7 rfl rfl)
theorem dX3_skips_102 : decode cX3_skips 102 = .ok (.aload_n 0, 1) := dk_42 (dk_at dksX3_skips_4 10 rfl rfl)
theorem dX3_skips_103 : decode cX3_skips 103 = .ok (.getfield 129, 3) := dk_180 0 129 (dk_at dksX3_skips_4 11 rfl rfl)
theorem dX3_skips_106 : decode cX3_skips 106 = .ok (.baload, 1) := dk_51 (dk_at dksX3_skips_4 14 rfl rfl)
theorem dX3_skips_107 : decode cX3_skips 107 = .ok (.invokestatic 132, 3) := dk_184 0 132 (dk_at dksX3_skips_4 15 rfl rfl)
theorem dX3_skips_110 : decode cX3_skips 110 = .ok (.ifCond .eq 80, 3) := dk_153 0 80 (dk_at dksX3_skips_4 18 rfl rfl)
theorem dX3_skips_113 : decode cX3_skips 113 = .ok (.aload_n 0, 1) := dk_42 (dk_at dksX3_skips_4 21 rfl rfl)
theorem dX3_skips_114 : decode cX3_skips 114 = .ok (.dup, 1) := dk_89 (dk_at dksX3_skips_4 22 rfl rfl)
theorem dX3_skips_115 : decode cX3_skips 115 = .ok (.getfield 129, 3) := dk_180 0 129 (dk_at dksX3_skips_5 0 rfl rfl)
theorem dX3_skips_118 : decode cX3_skips 118 = .ok (.iconst 1, 1) := dk_4 (dk_at dksX3_skips_5 3 rfl rfl)
theorem dX3_skips_119 : decode cX3_skips 119 = .ok (.iadd, 1) := dk_96 (dk_at dksX3_skips_5 4 rfl rfl)
theorem dX3_skips_120 : decode cX3_skips 120 = .ok (.putfield 129, 3) := dk_181 0 129 (dk_at dksX3_skips_5 5 rfl rfl)
theorem dX3_skips_123 : decode cX3_skips 123 = .ok (.goto (-36), 3) := dk_167 255 220 (dk_at dksX3_skips_5 8 rfl rfl)
theorem dX3_skips_126 : decode cX3_skips 126 = .ok (.aload_n 0, 1) := dk_42 (dk_at dksX3_skips_5 11 rfl rfl)
theorem dX3_skips_127 : decode cX3_skips 127 = .ok (.getfield 9, 3) := dk_180 0 9 (dk_at dksX3_skips_5 12 rfl rfl)
theorem dX3_skips_130 : decode cX3_skips 130 = .ok (.aload_n 0, 1) := dk_42 (dk_at dksX3_skips_5 15 rfl rfl)
theorem dX3_skips_131 : decode cX3_skips 131 = .ok (.getfield 126, 3) := dk_180 0 126 (dk_at dksX3_skips_5 16 rfl rfl)
theorem dX3_skips_134 : decode cX3_skips 134 = .ok (.baload, 1) := dk_51 (dk_at dksX3_skips_5 19 rfl rfl)
theorem dX3_skips_135 : decode cX3_skips 135 = .ok (.invokestatic 136, 3) := dk_184 0 136 (dk_at dksX3_skips_5 20 rfl rfl)
theorem dX3_skips_138 : decode cX3_skips 138 = .ok (.ifCond .eq 42, 3) := dk_153 0 42 (dk_at dksX3_skips_6 0 rfl rfl)
theorem dX3_skips_141 : decode cX3_skips 141 = .ok (.aload_n 0, 1) := dk_42 (dk_at dksX3_skips_6 3 rfl rfl)
theorem dX3_skips_142 : decode cX3_skips 142 = .ok (.getfield 129, 3) := dk_180 0 129 (dk_at dksX3_skips_6 4 rfl rfl)
theorem dX3_skips_145 : decode cX3_skips 145 = .ok (.aload_n 0, 1) := dk_42 (dk_at dksX3_skips_6 7 rfl rfl)
theorem dX3_skips_146 : decode cX3_skips 146 = .ok (.getfield 114, 3) := dk_180 0 114 (dk_at dksX3_skips_6 8 rfl rfl)
theorem dX3_skips_149 : decode cX3_skips 149 = .ok (.if_icmp .ge 41, 3) := dk_162 0 41 (dk_at dksX3_skips_6 11 rfl rfl)
theorem dX3_skips_152 : decode cX3_skips 152 = .ok (.aload_n 0, 1) := dk_42 (dk_at dksX3_skips_6 14 rfl rfl)
theorem dX3_skips_153 : decode cX3_skips 153 = .ok (.getfield 9, 3) := dk_180 0 9 (dk_at dksX3_skips_6 15 rfl rfl)
theorem dX3_skips_156 : decode cX3_skips 156 = .ok (.aload_n 0, 1) := dk_42 (dk_at dksX3_skips_6 18 rfl rfl)
theorem dX3_skips_157 : decode cX3_skips 157 = .ok (.getfield 129, 3) := dk_180 0 129 (dk_at dksX3_skips_6 19 rfl rfl)
theorem dX3_skips_160 : decode cX3_skips 160 = .ok (.baload, 1) := dk_51 (dk_at dksX3_skips_6 22 rfl rfl)
theorem dX3_skips_161 : decode cX3_skips 161 = .ok (.invokestatic 136, 3) := dk_184 0 136 (dk_at dksX3_skips_7 0 rfl rfl)
theorem dX3_skips_164 : decode cX3_skips 164 = .ok (.ifCond .eq 26, 3) := dk_153 0 26 (dk_at dksX3_skips_7 3 rfl rfl)
theorem dX3_skips_167 : decode cX3_skips 167 = .ok (.aload_n 0, 1) := dk_42 (dk_at dksX3_skips_7 6 rfl rfl)
theorem dX3_skips_168 : decode cX3_skips 168 = .ok (.dup, 1) := dk_89 (dk_at dksX3_skips_7 7 rfl rfl)
theorem dX3_skips_169 : decode cX3_skips 169 = .ok (.getfield 129, 3) := dk_180 0 129 (dk_at dksX3_skips_7 8 rfl rfl)
theorem dX3_skips_172 : decode cX3_skips 172 = .ok (.iconst 1, 1) := dk_4 (dk_at dksX3_skips_7 11 rfl rfl)
theorem dX3_skips_173 : decode cX3_skips 173 = .ok (.iadd, 1) := dk_96 (dk_at dksX3_skips_7 12 rfl rfl)
theorem dX3_skips_174 : decode cX3_skips 174 = .ok (.putfield 129, 3) := dk_181 0 129 (dk_at dksX3_skips_7 13 rfl rfl)
theorem dX3_skips_177 : decode cX3_skips 177 = .ok (.goto (-36), 3) := dk_167 255 220 (dk_at dksX3_skips_7 16 rfl rfl)
theorem dX3_skips_180 : decode cX3_skips 180 = .ok (.aload_n 0, 1) := dk_42 (dk_at dksX3_skips_7 19 rfl rfl)
theorem dX3_skips_181 : decode cX3_skips 181 = .ok (.aload_n 0, 1) := dk_42 (dk_at dksX3_skips_7 20 rfl rfl)
theorem dX3_skips_182 : decode cX3_skips 182 = .ok (.getfield 126, 3) := dk_180 0 126 (dk_at dksX3_skips_7 21 rfl rfl)
theorem dX3_skips_185 : decode cX3_skips 185 = .ok (.iconst 1, 1) := dk_4 (dk_at dksX3_skips_8 0 rfl rfl)
theorem dX3_skips_186 : decode cX3_skips 186 = .ok (.iadd, 1) := dk_96 (dk_at dksX3_skips_8 1 rfl rfl)
theorem dX3_skips_187 : decode cX3_skips 187 = .ok (.putfield 129, 3) := dk_181 0 129 (dk_at dksX3_skips_8 2 rfl rfl)
theorem dX3_skips_190 : decode cX3_skips 190 = .ok (.return_, 1) := dk_177 (dk_at dksX3_skips_8 5 rfl rfl)
def dkwX3_isLetter_0 : List UInt8 := [26, 16, 97, 161, 0, 13, 26, 16, 122, 163, 0, 7, 4, 167, 0, 4, 3, 172]
abbrev dktX3_isLetter_0 : List UInt8 := dkwX3_isLetter_0 ++ []
theorem dksX3_isLetter_0 : cX3_isLetter.data.toList.drop 0 = dktX3_isLetter_0 := by decide +kernel
theorem dX3_isLetter_0 : decode cX3_isLetter 0 = .ok (.iload_n 0, 1) := dk_26 (dk_at dksX3_isLetter_0 0 rfl rfl)
theorem dX3_isLetter_1 : decode cX3_isLetter 1 = .ok (.bipush 97, 2) := dk_16 97 (dk_at dksX3_isLetter_0 1 rfl rfl)
theorem dX3_isLetter_3 : decode cX3_isLetter 3 = .ok (.if_icmp .lt 13, 3) := dk_161 0 13 (dk_at dksX3_isLetter_0 3 rfl rfl)
theorem dX3_isLetter_6 : decode cX3_isLetter 6 = .ok (.iload_n 0, 1) := dk_26 (dk_at dksX3_isLetter_0 6 rfl rfl)
theorem dX3_isLetter_7 : decode cX3_isLetter 7 = .ok (.bipush 122, 2) := dk_16 122 (dk_at dksX3_isLetter_0 7 rfl rfl)
theorem dX3_isLetter_9 : decode cX3_isLetter 9 = .ok (.if_icmp .gt 7, 3) := dk_163 0 7 (dk_at dksX3_isLetter_0 9 rfl rfl)
theorem dX3_isLetter_12 : decode cX3_isLetter 12 = .ok (.iconst 1, 1) := dk_4 (dk_at dksX3_isLetter_0 12 rfl rfl)
theorem dX3_isLetter_13 : decode cX3_isLetter 13 = .ok (.goto 4, 3) := dk_167 0 4 (dk_at dksX3_isLetter_0 13 rfl rfl)
theorem dX3_isLetter_16 : decode cX3_isLetter 16 = .ok (.iconst 0, 1) := dk_3 (dk_at dksX3_isLetter_0 16 rfl rfl)
theorem dX3_isLetter_17 : decode cX3_isLetter 17 = .ok (.ireturn, 1) := dk_172 (dk_at dksX3_isLetter_0 17 rfl rfl)
def dkwX3_isDigit_0 : List UInt8 := [26, 16, 48, 161, 0, 13, 26, 16, 57, 163, 0, 7, 4, 167, 0, 4, 3, 172]
abbrev dktX3_isDigit_0 : List UInt8 := dkwX3_isDigit_0 ++ []
theorem dksX3_isDigit_0 : cX3_isDigit.data.toList.drop 0 = dktX3_isDigit_0 := by decide +kernel
theorem dX3_isDigit_0 : decode cX3_isDigit 0 = .ok (.iload_n 0, 1) := dk_26 (dk_at dksX3_isDigit_0 0 rfl rfl)
theorem dX3_isDigit_1 : decode cX3_isDigit 1 = .ok (.bipush 48, 2) := dk_16 48 (dk_at dksX3_isDigit_0 1 rfl rfl)
theorem dX3_isDigit_3 : decode cX3_isDigit 3 = .ok (.if_icmp .lt 13, 3) := dk_161 0 13 (dk_at dksX3_isDigit_0 3 rfl rfl)
theorem dX3_isDigit_6 : decode cX3_isDigit 6 = .ok (.iload_n 0, 1) := dk_26 (dk_at dksX3_isDigit_0 6 rfl rfl)
theorem dX3_isDigit_7 : decode cX3_isDigit 7 = .ok (.bipush 57, 2) := dk_16 57 (dk_at dksX3_isDigit_0 7 rfl rfl)
theorem dX3_isDigit_9 : decode cX3_isDigit 9 = .ok (.if_icmp .gt 7, 3) := dk_163 0 7 (dk_at dksX3_isDigit_0 9 rfl rfl)
theorem dX3_isDigit_12 : decode cX3_isDigit 12 = .ok (.iconst 1, 1) := dk_4 (dk_at dksX3_isDigit_0 12 rfl rfl)
theorem dX3_isDigit_13 : decode cX3_isDigit 13 = .ok (.goto 4, 3) := dk_167 0 4 (dk_at dksX3_isDigit_0 13 rfl rfl)
theorem dX3_isDigit_16 : decode cX3_isDigit 16 = .ok (.iconst 0, 1) := dk_3 (dk_at dksX3_isDigit_0 16 rfl rfl)
theorem dX3_isDigit_17 : decode cX3_isDigit 17 = .ok (.ireturn, 1) := dk_172 (dk_at dksX3_isDigit_0 17 rfl rfl)
def dkwX3_told_8 : List UInt8 := [4, 167, 0, 4, 3, 172]
abbrev dktX3_told_8 : List UInt8 := dkwX3_told_8 ++ []
def dkwX3_told_7 : List UInt8 := [180, 0, 182, 154, 0, 7, 4, 167, 0, 4, 3, 182, 0, 156, 153, 0, 14, 42, 182, 0, 222, 153, 0, 7]
abbrev dktX3_told_7 : List UInt8 := dkwX3_told_7 ++ dktX3_told_8
def dkwX3_told_6 : List UInt8 := [182, 0, 217, 153, 0, 7, 4, 167, 0, 4, 3, 172, 42, 42, 18, 220, 182, 0, 160, 153, 0, 14, 42]
abbrev dktX3_told_6 : List UInt8 := dkwX3_told_6 ++ dktX3_told_7
def dkwX3_told_5 : List UInt8 := [180, 0, 43, 4, 46, 16, 20, 162, 0, 7, 4, 167, 0, 4, 3, 182, 0, 156, 153, 0, 14, 42]
abbrev dktX3_told_5 : List UInt8 := dkwX3_told_5 ++ dktX3_told_6
def dkwX3_told_4 : List UInt8 := [182, 0, 212, 153, 0, 7, 4, 167, 0, 4, 3, 172, 42, 18, 215, 182, 0, 160, 153, 0, 39, 42, 42]
abbrev dktX3_told_4 : List UInt8 := dkwX3_told_4 ++ dktX3_told_5
def dkwX3_told_3 : List UInt8 := [180, 0, 39, 4, 46, 16, 15, 162, 0, 7, 4, 167, 0, 4, 3, 182, 0, 156, 153, 0, 14, 42]
abbrev dktX3_told_3 : List UInt8 := dkwX3_told_3 ++ dktX3_told_4
def dkwX3_told_2 : List UInt8 := [182, 0, 208, 153, 0, 7, 4, 167, 0, 4, 3, 172, 42, 18, 210, 182, 0, 160, 153, 0, 39, 42, 42]
abbrev dktX3_told_2 : List UInt8 := dkwX3_told_2 ++ dktX3_told_3
def dkwX3_told_1 : List UInt8 := [4, 167, 0, 4, 3, 172, 42, 18, 206, 182, 0, 160, 153, 0, 24, 42, 4, 182, 0, 156, 153, 0, 14, 42]
abbrev dktX3_told_1 : List UInt8 := dkwX3_told_1 ++ dktX3_told_2
def dkwX3_told_0 : List UInt8 := [42, 18, 201, 182, 0, 160, 153, 0, 24, 42, 4, 182, 0, 156, 153, 0, 14, 42, 182, 0, 203, 153, 0, 7]
abbrev dktX3_told_0 : List UInt8 := dkwX3_told_0 ++ dktX3_told_1
theorem dksX3_told_0 : cX3_told.data.toList.drop 0 = dktX3_told_0 := by decide +kernel
theorem dksX3_told_1 : cX3_told.data.toList.drop 24 = dktX3_told_1 := dk_seg dksX3_told_0 24 rfl rfl
theorem dksX3_told_2 : cX3_told.data.toList.drop 48 = dktX3_told_2 := dk_seg dksX3_told_1 24 rfl rfl
theorem dksX3_told_3 : cX3_told.data.toList.drop 71 = dktX3_told_3 := dk_seg dksX3_told_2 23 rfl rfl
theorem dksX3_told_4 : cX3_told.data.toList.drop 93 = dktX3_told_4 := dk_seg dksX3_told_3 22 rfl rfl
theorem dksX3_told_5 : cX3_told.data.toList.drop 116 = dktX3_told_5 := dk_seg dksX3_told_4 23 rfl rfl
theorem dksX3_told_6 : cX3_told.data.toList.drop 138 = dktX3_told_6 := dk_seg dksX3_told_5 22 rfl rfl
theorem dksX3_told_7 : cX3_told.data.toList.drop 161 = dktX3_told_7 := dk_seg dksX3_told_6 23 rfl rfl
theorem dksX3_told_8 : cX3_told.data.toList.drop 185 = dktX3_told_8 := dk_seg dksX3_told_7 24 rfl rfl
theorem dX3_told_0 : decode cX3_told 0 = .ok (.aload_n 0, 1) := dk_42 (dk_at dksX3_told_0 0 rfl rfl)
theorem dX3_told_1 : decode cX3_told 1 = .ok (.ldc 201, 2) := dk_18 201 (dk_at dksX3_told_0 1 rfl rfl)
theorem dX3_told_3 : decode cX3_told 3 = .ok (.invokevirtual 160, 3) := dk_182 0 160 (dk_at dksX3_told_0 3 rfl rfl)
theorem dX3_told_6 : decode cX3_told 6 = .ok (.ifCond .eq 24, 3) := dk_153 0 24 (dk_at dksX3_told_0 6 rfl rfl)
theorem dX3_told_9 : decode cX3_told 9 = .ok (.aload_n 0, 1) := dk_42 (dk_at dksX3_told_0 9 rfl rfl)
theorem dX3_told_10 : decode cX3_told 10 = .ok (.iconst 1, 1) := dk_4 (dk_at dksX3_told_0 10 rfl rfl)
theorem dX3_told_11 : decode cX3_told 11 = .ok (.invokevirtual 156, 3) := dk_182 0 156 (dk_at dksX3_told_0 11 rfl rfl)
theorem dX3_told_14 : decode cX3_told 14 = .ok (.ifCond .eq 14, 3) := dk_153 0 14 (dk_at dksX3_told_0 14 rfl rfl)
theorem dX3_told_17 : decode cX3_told 17 = .ok (.aload_n 0, 1) := dk_42 (dk_at dksX3_told_0 17 rfl rfl)
theorem dX3_told_18 : decode cX3_told 18 = .ok (.invokevirtual 203, 3) := dk_182 0 203 (dk_at dksX3_told_0 18 rfl rfl)
theorem dX3_told_21 : decode cX3_told 21 = .ok (.ifCond .eq 7, 3) := dk_153 0 7 (dk_at dksX3_told_0 21 rfl rfl)
theorem dX3_told_24 : decode cX3_told 24 = .ok (.iconst 1, 1) := dk_4 (dk_at dksX3_told_1 0 rfl rfl)
theorem dX3_told_25 : decode cX3_told 25 = .ok (.goto 4, 3) := dk_167 0 4 (dk_at dksX3_told_1 1 rfl rfl)
theorem dX3_told_28 : decode cX3_told 28 = .ok (.iconst 0, 1) := dk_3 (dk_at dksX3_told_1 4 rfl rfl)
theorem dX3_told_29 : decode cX3_told 29 = .ok (.ireturn, 1) := dk_172 (dk_at dksX3_told_1 5 rfl rfl)
theorem dX3_told_30 : decode cX3_told 30 = .ok (.aload_n 0, 1) := dk_42 (dk_at dksX3_told_1 6 rfl rfl)
theorem dX3_told_31 : decode cX3_told 31 = .ok (.ldc 206, 2) := dk_18 206 (dk_at dksX3_told_1 7 rfl rfl)
theorem dX3_told_33 : decode cX3_told 33 = .ok (.invokevirtual 160, 3) := dk_182 0 160 (dk_at dksX3_told_1 9 rfl rfl)
theorem dX3_told_36 : decode cX3_told 36 = .ok (.ifCond .eq 24, 3) := dk_153 0 24 (dk_at dksX3_told_1 12 rfl rfl)
theorem dX3_told_39 : decode cX3_told 39 = .ok (.aload_n 0, 1) := dk_42 (dk_at dksX3_told_1 15 rfl rfl)
theorem dX3_told_40 : decode cX3_told 40 = .ok (.iconst 1, 1) := dk_4 (dk_at dksX3_told_1 16 rfl rfl)
theorem dX3_told_41 : decode cX3_told 41 = .ok (.invokevirtual 156, 3) := dk_182 0 156 (dk_at dksX3_told_1 17 rfl rfl)
theorem dX3_told_44 : decode cX3_told 44 = .ok (.ifCond .eq 14, 3) := dk_153 0 14 (dk_at dksX3_told_1 20 rfl rfl)
theorem dX3_told_47 : decode cX3_told 47 = .ok (.aload_n 0, 1) := dk_42 (dk_at dksX3_told_1 23 rfl rfl)
theorem dX3_told_48 : decode cX3_told 48 = .ok (.invokevirtual 208, 3) := dk_182 0 208 (dk_at dksX3_told_2 0 rfl rfl)
theorem dX3_told_51 : decode cX3_told 51 = .ok (.ifCond .eq 7, 3) := dk_153 0 7 (dk_at dksX3_told_2 3 rfl rfl)
theorem dX3_told_54 : decode cX3_told 54 = .ok (.iconst 1, 1) := dk_4 (dk_at dksX3_told_2 6 rfl rfl)
theorem dX3_told_55 : decode cX3_told 55 = .ok (.goto 4, 3) := dk_167 0 4 (dk_at dksX3_told_2 7 rfl rfl)
theorem dX3_told_58 : decode cX3_told 58 = .ok (.iconst 0, 1) := dk_3 (dk_at dksX3_told_2 10 rfl rfl)
theorem dX3_told_59 : decode cX3_told 59 = .ok (.ireturn, 1) := dk_172 (dk_at dksX3_told_2 11 rfl rfl)
theorem dX3_told_60 : decode cX3_told 60 = .ok (.aload_n 0, 1) := dk_42 (dk_at dksX3_told_2 12 rfl rfl)
theorem dX3_told_61 : decode cX3_told 61 = .ok (.ldc 210, 2) := dk_18 210 (dk_at dksX3_told_2 13 rfl rfl)
theorem dX3_told_63 : decode cX3_told 63 = .ok (.invokevirtual 160, 3) := dk_182 0 160 (dk_at dksX3_told_2 15 rfl rfl)
theorem dX3_told_66 : decode cX3_told 66 = .ok (.ifCond .eq 39, 3) := dk_153 0 39 (dk_at dksX3_told_2 18 rfl rfl)
theorem dX3_told_69 : decode cX3_told 69 = .ok (.aload_n 0, 1) := dk_42 (dk_at dksX3_told_2 21 rfl rfl)
theorem dX3_told_70 : decode cX3_told 70 = .ok (.aload_n 0, 1) := dk_42 (dk_at dksX3_told_2 22 rfl rfl)
theorem dX3_told_71 : decode cX3_told 71 = .ok (.getfield 39, 3) := dk_180 0 39 (dk_at dksX3_told_3 0 rfl rfl)
theorem dX3_told_74 : decode cX3_told 74 = .ok (.iconst 1, 1) := dk_4 (dk_at dksX3_told_3 3 rfl rfl)
theorem dX3_told_75 : decode cX3_told 75 = .ok (.iaload, 1) := dk_46 (dk_at dksX3_told_3 4 rfl rfl)
theorem dX3_told_76 : decode cX3_told 76 = .ok (.bipush 15, 2) := dk_16 15 (dk_at dksX3_told_3 5 rfl rfl)
theorem dX3_told_78 : decode cX3_told 78 = .ok (.if_icmp .ge 7, 3) := dk_162 0 7 (dk_at dksX3_told_3 7 rfl rfl)
theorem dX3_told_81 : decode cX3_told 81 = .ok (.iconst 1, 1) := dk_4 (dk_at dksX3_told_3 10 rfl rfl)
theorem dX3_told_82 : decode cX3_told 82 = .ok (.goto 4, 3) := dk_167 0 4 (dk_at dksX3_told_3 11 rfl rfl)
theorem dX3_told_85 : decode cX3_told 85 = .ok (.iconst 0, 1) := dk_3 (dk_at dksX3_told_3 14 rfl rfl)
theorem dX3_told_86 : decode cX3_told 86 = .ok (.invokevirtual 156, 3) := dk_182 0 156 (dk_at dksX3_told_3 15 rfl rfl)
theorem dX3_told_89 : decode cX3_told 89 = .ok (.ifCond .eq 14, 3) := dk_153 0 14 (dk_at dksX3_told_3 18 rfl rfl)
theorem dX3_told_92 : decode cX3_told 92 = .ok (.aload_n 0, 1) := dk_42 (dk_at dksX3_told_3 21 rfl rfl)
theorem dX3_told_93 : decode cX3_told 93 = .ok (.invokevirtual 212, 3) := dk_182 0 212 (dk_at dksX3_told_4 0 rfl rfl)
theorem dX3_told_96 : decode cX3_told 96 = .ok (.ifCond .eq 7, 3) := dk_153 0 7 (dk_at dksX3_told_4 3 rfl rfl)
theorem dX3_told_99 : decode cX3_told 99 = .ok (.iconst 1, 1) := dk_4 (dk_at dksX3_told_4 6 rfl rfl)
theorem dX3_told_100 : decode cX3_told 100 = .ok (.goto 4, 3) := dk_167 0 4 (dk_at dksX3_told_4 7 rfl rfl)
theorem dX3_told_103 : decode cX3_told 103 = .ok (.iconst 0, 1) := dk_3 (dk_at dksX3_told_4 10 rfl rfl)
theorem dX3_told_104 : decode cX3_told 104 = .ok (.ireturn, 1) := dk_172 (dk_at dksX3_told_4 11 rfl rfl)
theorem dX3_told_105 : decode cX3_told 105 = .ok (.aload_n 0, 1) := dk_42 (dk_at dksX3_told_4 12 rfl rfl)
theorem dX3_told_106 : decode cX3_told 106 = .ok (.ldc 215, 2) := dk_18 215 (dk_at dksX3_told_4 13 rfl rfl)
theorem dX3_told_108 : decode cX3_told 108 = .ok (.invokevirtual 160, 3) := dk_182 0 160 (dk_at dksX3_told_4 15 rfl rfl)
theorem dX3_told_111 : decode cX3_told 111 = .ok (.ifCond .eq 39, 3) := dk_153 0 39 (dk_at dksX3_told_4 18 rfl rfl)
theorem dX3_told_114 : decode cX3_told 114 = .ok (.aload_n 0, 1) := dk_42 (dk_at dksX3_told_4 21 rfl rfl)
theorem dX3_told_115 : decode cX3_told 115 = .ok (.aload_n 0, 1) := dk_42 (dk_at dksX3_told_4 22 rfl rfl)
theorem dX3_told_116 : decode cX3_told 116 = .ok (.getfield 43, 3) := dk_180 0 43 (dk_at dksX3_told_5 0 rfl rfl)
theorem dX3_told_119 : decode cX3_told 119 = .ok (.iconst 1, 1) := dk_4 (dk_at dksX3_told_5 3 rfl rfl)
theorem dX3_told_120 : decode cX3_told 120 = .ok (.iaload, 1) := dk_46 (dk_at dksX3_told_5 4 rfl rfl)
theorem dX3_told_121 : decode cX3_told 121 = .ok (.bipush 20, 2) := dk_16 20 (dk_at dksX3_told_5 5 rfl rfl)
theorem dX3_told_123 : decode cX3_told 123 = .ok (.if_icmp .ge 7, 3) := dk_162 0 7 (dk_at dksX3_told_5 7 rfl rfl)
theorem dX3_told_126 : decode cX3_told 126 = .ok (.iconst 1, 1) := dk_4 (dk_at dksX3_told_5 10 rfl rfl)
theorem dX3_told_127 : decode cX3_told 127 = .ok (.goto 4, 3) := dk_167 0 4 (dk_at dksX3_told_5 11 rfl rfl)
theorem dX3_told_130 : decode cX3_told 130 = .ok (.iconst 0, 1) := dk_3 (dk_at dksX3_told_5 14 rfl rfl)
theorem dX3_told_131 : decode cX3_told 131 = .ok (.invokevirtual 156, 3) := dk_182 0 156 (dk_at dksX3_told_5 15 rfl rfl)
theorem dX3_told_134 : decode cX3_told 134 = .ok (.ifCond .eq 14, 3) := dk_153 0 14 (dk_at dksX3_told_5 18 rfl rfl)
theorem dX3_told_137 : decode cX3_told 137 = .ok (.aload_n 0, 1) := dk_42 (dk_at dksX3_told_5 21 rfl rfl)
theorem dX3_told_138 : decode cX3_told 138 = .ok (.invokevirtual 217, 3) := dk_182 0 217 (dk_at dksX3_told_6 0 rfl rfl)
theorem dX3_told_141 : decode cX3_told 141 = .ok (.ifCond .eq 7, 3) := dk_153 0 7 (dk_at dksX3_told_6 3 rfl rfl)
theorem dX3_told_144 : decode cX3_told 144 = .ok (.iconst 1, 1) := dk_4 (dk_at dksX3_told_6 6 rfl rfl)
theorem dX3_told_145 : decode cX3_told 145 = .ok (.goto 4, 3) := dk_167 0 4 (dk_at dksX3_told_6 7 rfl rfl)
theorem dX3_told_148 : decode cX3_told 148 = .ok (.iconst 0, 1) := dk_3 (dk_at dksX3_told_6 10 rfl rfl)
theorem dX3_told_149 : decode cX3_told 149 = .ok (.ireturn, 1) := dk_172 (dk_at dksX3_told_6 11 rfl rfl)
theorem dX3_told_150 : decode cX3_told 150 = .ok (.aload_n 0, 1) := dk_42 (dk_at dksX3_told_6 12 rfl rfl)
theorem dX3_told_151 : decode cX3_told 151 = .ok (.aload_n 0, 1) := dk_42 (dk_at dksX3_told_6 13 rfl rfl)
theorem dX3_told_152 : decode cX3_told 152 = .ok (.ldc 220, 2) := dk_18 220 (dk_at dksX3_told_6 14 rfl rfl)
theorem dX3_told_154 : decode cX3_told 154 = .ok (.invokevirtual 160, 3) := dk_182 0 160 (dk_at dksX3_told_6 16 rfl rfl)
theorem dX3_told_157 : decode cX3_told 157 = .ok (.ifCond .eq 14, 3) := dk_153 0 14 (dk_at dksX3_told_6 19 rfl rfl)
theorem dX3_told_160 : decode cX3_told 160 = .ok (.aload_n 0, 1) := dk_42 (dk_at dksX3_told_6 22 rfl rfl)
theorem dX3_told_161 : decode cX3_told 161 = .ok (.getfield 182, 3) := dk_180 0 182 (dk_at dksX3_told_7 0 rfl rfl)
theorem dX3_told_164 : decode cX3_told 164 = .ok (.ifCond .ne 7, 3) := dk_154 0 7 (dk_at dksX3_told_7 3 rfl rfl)
theorem dX3_told_167 : decode cX3_told 167 = .ok (.iconst 1, 1) := dk_4 (dk_at dksX3_told_7 6 rfl rfl)
theorem dX3_told_168 : decode cX3_told 168 = .ok (.goto 4, 3) := dk_167 0 4 (dk_at dksX3_told_7 7 rfl rfl)
theorem dX3_told_171 : decode cX3_told 171 = .ok (.iconst 0, 1) := dk_3 (dk_at dksX3_told_7 10 rfl rfl)
theorem dX3_told_172 : decode cX3_told 172 = .ok (.invokevirtual 156, 3) := dk_182 0 156 (dk_at dksX3_told_7 11 rfl rfl)
theorem dX3_told_175 : decode cX3_told 175 = .ok (.ifCond .eq 14, 3) := dk_153 0 14 (dk_at dksX3_told_7 14 rfl rfl)
theorem dX3_told_178 : decode cX3_told 178 = .ok (.aload_n 0, 1) := dk_42 (dk_at dksX3_told_7 17 rfl rfl)
theorem dX3_told_179 : decode cX3_told 179 = .ok (.invokevirtual 222, 3) := dk_182 0 222 (dk_at dksX3_told_7 18 rfl rfl)
theorem dX3_told_182 : decode cX3_told 182 = .ok (.ifCond .eq 7, 3) := dk_153 0 7 (dk_at dksX3_told_7 21 rfl rfl)
theorem dX3_told_185 : decode cX3_told 185 = .ok (.iconst 1, 1) := dk_4 (dk_at dksX3_told_8 0 rfl rfl)
theorem dX3_told_186 : decode cX3_told 186 = .ok (.goto 4, 3) := dk_167 0 4 (dk_at dksX3_told_8 1 rfl rfl)
theorem dX3_told_189 : decode cX3_told 189 = .ok (.iconst 0, 1) := dk_3 (dk_at dksX3_told_8 4 rfl rfl)
theorem dX3_told_190 : decode cX3_told 190 = .ok (.ireturn, 1) := dk_172 (dk_at dksX3_told_8 5 rfl rfl)
def dkwX3_isWord_2 : List UInt8 := [96, 51, 43, 28, 182, 0, 143, 159, 0, 5, 3, 172, 132, 2, 1, 167, 255, 224, 4, 172]
abbrev dktX3_isWord_2 : List UInt8 := dkwX3_isWord_2 ++ []
def dkwX3_isWord_1 : List UInt8 := [159, 0, 5, 3, 172, 3, 61, 28, 43, 182, 0, 139, 162, 0, 30, 42, 180, 0, 9, 42, 180, 0, 126, 28]
abbrev dktX3_isWord_1 : List UInt8 := dkwX3_isWord_1 ++ dktX3_isWord_2
def dkwX3_isWord_0 : List UInt8 := [42, 180, 0, 126, 42, 180, 0, 114, 159, 0, 19, 42, 180, 0, 129, 42, 180, 0, 126, 100, 43, 182, 0, 139]
abbrev dktX3_isWord_0 : List UInt8 := dkwX3_isWord_0 ++ dktX3_isWord_1
theorem dksX3_isWord_0 : cX3_isWord.data.toList.drop 0 = dktX3_isWord_0 := by decide +kernel
theorem dksX3_isWord_1 : cX3_isWord.data.toList.drop 24 = dktX3_isWord_1 := dk_seg dksX3_isWord_0 24 rfl rfl
theorem dksX3_isWord_2 : cX3_isWord.data.toList.drop 48 = dktX3_isWord_2 := dk_seg dksX3_isWord_1 24 rfl rfl
theorem dX3_isWord_0 : decode cX3_isWord 0 = .ok (.aload_n 0, 1) := dk_42 (dk_at dksX3_isWord_0 0 rfl rfl)
theorem dX3_isWord_1 : decode cX3_isWord 1 = .ok (.getfield 126, 3) := dk_180 0 126 (dk_at dksX3_isWord_0 1 rfl rfl)
theorem dX3_isWord_4 : decode cX3_isWord 4 = .ok (.aload_n 0, 1) := dk_42 (dk_at dksX3_isWord_0 4 rfl rfl)
theorem dX3_isWord_5 : decode cX3_isWord 5 = .ok (.getfield 114, 3) := dk_180 0 114 (dk_at dksX3_isWord_0 5 rfl rfl)
theorem dX3_isWord_8 : decode cX3_isWord 8 = .ok (.if_icmp .eq 19, 3) := dk_159 0 19 (dk_at dksX3_isWord_0 8 rfl rfl)
theorem dX3_isWord_11 : decode cX3_isWord 11 = .ok (.aload_n 0, 1) := dk_42 (dk_at dksX3_isWord_0 11 rfl rfl)
theorem dX3_isWord_12 : decode cX3_isWord 12 = .ok (.getfield 129, 3) := dk_180 0 129 (dk_at dksX3_isWord_0 12 rfl rfl)
theorem dX3_isWord_15 : decode cX3_isWord 15 = .ok (.aload_n 0, 1) := dk_42 (dk_at dksX3_isWord_0 15 rfl rfl)
theorem dX3_isWord_16 : decode cX3_isWord 16 = .ok (.getfield 126, 3) := dk_180 0 126 (dk_at dksX3_isWord_0 16 rfl rfl)
theorem dX3_isWord_19 : decode cX3_isWord 19 = .ok (.isub, 1) := dk_100 (dk_at dksX3_isWord_0 19 rfl rfl)
theorem dX3_isWord_20 : decode cX3_isWord 20 = .ok (.aload_n 1, 1) := dk_43 (dk_at dksX3_isWord_0 20 rfl rfl)
theorem dX3_isWord_21 : decode cX3_isWord 21 = .ok (.invokevirtual 139, 3) := dk_182 0 139 (dk_at dksX3_isWord_0 21 rfl rfl)
theorem dX3_isWord_24 : decode cX3_isWord 24 = .ok (.if_icmp .eq 5, 3) := dk_159 0 5 (dk_at dksX3_isWord_1 0 rfl rfl)
theorem dX3_isWord_27 : decode cX3_isWord 27 = .ok (.iconst 0, 1) := dk_3 (dk_at dksX3_isWord_1 3 rfl rfl)
theorem dX3_isWord_28 : decode cX3_isWord 28 = .ok (.ireturn, 1) := dk_172 (dk_at dksX3_isWord_1 4 rfl rfl)
theorem dX3_isWord_29 : decode cX3_isWord 29 = .ok (.iconst 0, 1) := dk_3 (dk_at dksX3_isWord_1 5 rfl rfl)
theorem dX3_isWord_30 : decode cX3_isWord 30 = .ok (.istore_n 2, 1) := dk_61 (dk_at dksX3_isWord_1 6 rfl rfl)
theorem dX3_isWord_31 : decode cX3_isWord 31 = .ok (.iload_n 2, 1) := dk_28 (dk_at dksX3_isWord_1 7 rfl rfl)
theorem dX3_isWord_32 : decode cX3_isWord 32 = .ok (.aload_n 1, 1) := dk_43 (dk_at dksX3_isWord_1 8 rfl rfl)
theorem dX3_isWord_33 : decode cX3_isWord 33 = .ok (.invokevirtual 139, 3) := dk_182 0 139 (dk_at dksX3_isWord_1 9 rfl rfl)
theorem dX3_isWord_36 : decode cX3_isWord 36 = .ok (.if_icmp .ge 30, 3) := dk_162 0 30 (dk_at dksX3_isWord_1 12 rfl rfl)
theorem dX3_isWord_39 : decode cX3_isWord 39 = .ok (.aload_n 0, 1) := dk_42 (dk_at dksX3_isWord_1 15 rfl rfl)
theorem dX3_isWord_40 : decode cX3_isWord 40 = .ok (.getfield 9, 3) := dk_180 0 9 (dk_at dksX3_isWord_1 16 rfl rfl)
theorem dX3_isWord_43 : decode cX3_isWord 43 = .ok (.aload_n 0, 1) := dk_42 (dk_at dksX3_isWord_1 19 rfl rfl)
theorem dX3_isWord_44 : decode cX3_isWord 44 = .ok (.getfield 126, 3) := dk_180 0 126 (dk_at dksX3_isWord_1 20 rfl rfl)
theorem dX3_isWord_47 : decode cX3_isWord 47 = .ok (.iload_n 2, 1) := dk_28 (dk_at dksX3_isWord_1 23 rfl rfl)
theorem dX3_isWord_48 : decode cX3_isWord 48 = .ok (.iadd, 1) := dk_96 (dk_at dksX3_isWord_2 0 rfl rfl)
theorem dX3_isWord_49 : decode cX3_isWord 49 = .ok (.baload, 1) := dk_51 (dk_at dksX3_isWord_2 1 rfl rfl)
theorem dX3_isWord_50 : decode cX3_isWord 50 = .ok (.aload_n 1, 1) := dk_43 (dk_at dksX3_isWord_2 2 rfl rfl)
theorem dX3_isWord_51 : decode cX3_isWord 51 = .ok (.iload_n 2, 1) := dk_28 (dk_at dksX3_isWord_2 3 rfl rfl)
theorem dX3_isWord_52 : decode cX3_isWord 52 = .ok (.invokevirtual 143, 3) := dk_182 0 143 (dk_at dksX3_isWord_2 4 rfl rfl)
theorem dX3_isWord_55 : decode cX3_isWord 55 = .ok (.if_icmp .eq 5, 3) := dk_159 0 5 (dk_at dksX3_isWord_2 7 rfl rfl)
theorem dX3_isWord_58 : decode cX3_isWord 58 = .ok (.iconst 0, 1) := dk_3 (dk_at dksX3_isWord_2 10 rfl rfl)
theorem dX3_isWord_59 : decode cX3_isWord 59 = .ok (.ireturn, 1) := dk_172 (dk_at dksX3_isWord_2 11 rfl rfl)
theorem dX3_isWord_60 : decode cX3_isWord 60 = .ok (.iinc 2 1, 3) := dk_132 2 1 (dk_at dksX3_isWord_2 12 rfl rfl)
theorem dX3_isWord_63 : decode cX3_isWord 63 = .ok (.goto (-32), 3) := dk_167 255 224 (dk_at dksX3_isWord_2 15 rfl rfl)
theorem dX3_isWord_66 : decode cX3_isWord 66 = .ok (.iconst 1, 1) := dk_4 (dk_at dksX3_isWord_2 18 rfl rfl)
theorem dX3_isWord_67 : decode cX3_isWord 67 = .ok (.ireturn, 1) := dk_172 (dk_at dksX3_isWord_2 19 rfl rfl)
def dkwX3_passes_1 : List UInt8 := [180, 0, 129, 181, 0, 126, 42, 182, 0, 150, 4, 172]
abbrev dktX3_passes_1 : List UInt8 := dkwX3_passes_1 ++ []
def dkwX3_passes_0 : List UInt8 := [27, 154, 0, 21, 42, 180, 0, 147, 2, 160, 0, 11, 42, 42, 180, 0, 126, 181, 0, 147, 3, 172, 42, 42]
abbrev dktX3_passes_0 : List UInt8 := dkwX3_passes_0 ++ dktX3_passes_1
theorem dksX3_passes_0 : cX3_passes.data.toList.drop 0 = dktX3_passes_0 := by decide +kernel
theorem dksX3_passes_1 : cX3_passes.data.toList.drop 24 = dktX3_passes_1 := dk_seg dksX3_passes_0 24 rfl rfl
theorem dX3_passes_0 : decode cX3_passes 0 = .ok (.iload_n 1, 1) := dk_27 (dk_at dksX3_passes_0 0 rfl rfl)
theorem dX3_passes_1 : decode cX3_passes 1 = .ok (.ifCond .ne 21, 3) := dk_154 0 21 (dk_at dksX3_passes_0 1 rfl rfl)
theorem dX3_passes_4 : decode cX3_passes 4 = .ok (.aload_n 0, 1) := dk_42 (dk_at dksX3_passes_0 4 rfl rfl)
theorem dX3_passes_5 : decode cX3_passes 5 = .ok (.getfield 147, 3) := dk_180 0 147 (dk_at dksX3_passes_0 5 rfl rfl)
theorem dX3_passes_8 : decode cX3_passes 8 = .ok (.iconst (-1), 1) := dk_2 (dk_at dksX3_passes_0 8 rfl rfl)
theorem dX3_passes_9 : decode cX3_passes 9 = .ok (.if_icmp .ne 11, 3) := dk_160 0 11 (dk_at dksX3_passes_0 9 rfl rfl)
theorem dX3_passes_12 : decode cX3_passes 12 = .ok (.aload_n 0, 1) := dk_42 (dk_at dksX3_passes_0 12 rfl rfl)
theorem dX3_passes_13 : decode cX3_passes 13 = .ok (.aload_n 0, 1) := dk_42 (dk_at dksX3_passes_0 13 rfl rfl)
theorem dX3_passes_14 : decode cX3_passes 14 = .ok (.getfield 126, 3) := dk_180 0 126 (dk_at dksX3_passes_0 14 rfl rfl)
theorem dX3_passes_17 : decode cX3_passes 17 = .ok (.putfield 147, 3) := dk_181 0 147 (dk_at dksX3_passes_0 17 rfl rfl)
theorem dX3_passes_20 : decode cX3_passes 20 = .ok (.iconst 0, 1) := dk_3 (dk_at dksX3_passes_0 20 rfl rfl)
theorem dX3_passes_21 : decode cX3_passes 21 = .ok (.ireturn, 1) := dk_172 (dk_at dksX3_passes_0 21 rfl rfl)
theorem dX3_passes_22 : decode cX3_passes 22 = .ok (.aload_n 0, 1) := dk_42 (dk_at dksX3_passes_0 22 rfl rfl)
theorem dX3_passes_23 : decode cX3_passes 23 = .ok (.aload_n 0, 1) := dk_42 (dk_at dksX3_passes_0 23 rfl rfl)
theorem dX3_passes_24 : decode cX3_passes 24 = .ok (.getfield 129, 3) := dk_180 0 129 (dk_at dksX3_passes_1 0 rfl rfl)
theorem dX3_passes_27 : decode cX3_passes 27 = .ok (.putfield 126, 3) := dk_181 0 126 (dk_at dksX3_passes_1 3 rfl rfl)
theorem dX3_passes_30 : decode cX3_passes 30 = .ok (.aload_n 0, 1) := dk_42 (dk_at dksX3_passes_1 6 rfl rfl)
theorem dX3_passes_31 : decode cX3_passes 31 = .ok (.invokevirtual 150, 3) := dk_182 0 150 (dk_at dksX3_passes_1 7 rfl rfl)
theorem dX3_passes_34 : decode cX3_passes 34 = .ok (.iconst 1, 1) := dk_4 (dk_at dksX3_passes_1 10 rfl rfl)
theorem dX3_passes_35 : decode cX3_passes 35 = .ok (.ireturn, 1) := dk_172 (dk_at dksX3_passes_1 11 rfl rfl)
def dkwX3_near_3 : List UInt8 := [172]
abbrev dktX3_near_3 : List UInt8 := dkwX3_near_3 ++ []
def dkwX3_near_2 : List UInt8 := [182, 0, 156, 153, 0, 20, 42, 42, 16, 59, 182, 0, 167, 182, 0, 156, 153, 0, 7, 4, 167, 0, 4, 3]
abbrev dktX3_near_2 : List UInt8 := dkwX3_near_2 ++ dktX3_near_3
def dkwX3_near_1 : List UInt8 := [132, 2, 1, 167, 255, 233, 42, 27, 181, 0, 164, 42, 27, 2, 159, 0, 7, 4, 167, 0, 4, 3]
abbrev dktX3_near_1 : List UInt8 := dkwX3_near_1 ++ dktX3_near_2
def dkwX3_near_0 : List UInt8 := [2, 60, 3, 61, 28, 7, 162, 0, 24, 42, 42, 180, 0, 65, 28, 50, 182, 0, 160, 153, 0, 5, 28, 60]
abbrev dktX3_near_0 : List UInt8 := dkwX3_near_0 ++ dktX3_near_1
theorem dksX3_near_0 : cX3_near.data.toList.drop 0 = dktX3_near_0 := by decide +kernel
theorem dksX3_near_1 : cX3_near.data.toList.drop 24 = dktX3_near_1 := dk_seg dksX3_near_0 24 rfl rfl
theorem dksX3_near_2 : cX3_near.data.toList.drop 46 = dktX3_near_2 := dk_seg dksX3_near_1 22 rfl rfl
theorem dksX3_near_3 : cX3_near.data.toList.drop 70 = dktX3_near_3 := dk_seg dksX3_near_2 24 rfl rfl
theorem dX3_near_0 : decode cX3_near 0 = .ok (.iconst (-1), 1) := dk_2 (dk_at dksX3_near_0 0 rfl rfl)
theorem dX3_near_1 : decode cX3_near 1 = .ok (.istore_n 1, 1) := dk_60 (dk_at dksX3_near_0 1 rfl rfl)
theorem dX3_near_2 : decode cX3_near 2 = .ok (.iconst 0, 1) := dk_3 (dk_at dksX3_near_0 2 rfl rfl)
theorem dX3_near_3 : decode cX3_near 3 = .ok (.istore_n 2, 1) := dk_61 (dk_at dksX3_near_0 3 rfl rfl)
theorem dX3_near_4 : decode cX3_near 4 = .ok (.iload_n 2, 1) := dk_28 (dk_at dksX3_near_0 4 rfl rfl)
theorem dX3_near_5 : decode cX3_near 5 = .ok (.iconst 4, 1) := dk_7 (dk_at dksX3_near_0 5 rfl rfl)
theorem dX3_near_6 : decode cX3_near 6 = .ok (.if_icmp .ge 24, 3) := dk_162 0 24 (dk_at dksX3_near_0 6 rfl rfl)
theorem dX3_near_9 : decode cX3_near 9 = .ok (.aload_n 0, 1) := dk_42 (dk_at dksX3_near_0 9 rfl rfl)
theorem dX3_near_10 : decode cX3_near 10 = .ok (.aload_n 0, 1) := dk_42 (dk_at dksX3_near_0 10 rfl rfl)
theorem dX3_near_11 : decode cX3_near 11 = .ok (.getfield 65, 3) := dk_180 0 65 (dk_at dksX3_near_0 11 rfl rfl)
theorem dX3_near_14 : decode cX3_near 14 = .ok (.iload_n 2, 1) := dk_28 (dk_at dksX3_near_0 14 rfl rfl)
theorem dX3_near_15 : decode cX3_near 15 = .ok (.aaload, 1) := dk_50 (dk_at dksX3_near_0 15 rfl rfl)
theorem dX3_near_16 : decode cX3_near 16 = .ok (.invokevirtual 160, 3) := dk_182 0 160 (dk_at dksX3_near_0 16 rfl rfl)
theorem dX3_near_19 : decode cX3_near 19 = .ok (.ifCond .eq 5, 3) := dk_153 0 5 (dk_at dksX3_near_0 19 rfl rfl)
theorem dX3_near_22 : decode cX3_near 22 = .ok (.iload_n 2, 1) := dk_28 (dk_at dksX3_near_0 22 rfl rfl)
theorem dX3_near_23 : decode cX3_near 23 = .ok (.istore_n 1, 1) := dk_60 (dk_at dksX3_near_0 23 rfl rfl)
theorem dX3_near_24 : decode cX3_near 24 = .ok (.iinc 2 1, 3) := dk_132 2 1 (dk_at dksX3_near_1 0 rfl rfl)
theorem dX3_near_27 : decode cX3_near 27 = .ok (.goto (-23), 3) := dk_167 255 233 (dk_at dksX3_near_1 3 rfl rfl)
theorem dX3_near_30 : decode cX3_near 30 = .ok (.aload_n 0, 1) := dk_42 (dk_at dksX3_near_1 6 rfl rfl)
theorem dX3_near_31 : decode cX3_near 31 = .ok (.iload_n 1, 1) := dk_27 (dk_at dksX3_near_1 7 rfl rfl)
theorem dX3_near_32 : decode cX3_near 32 = .ok (.putfield 164, 3) := dk_181 0 164 (dk_at dksX3_near_1 8 rfl rfl)
theorem dX3_near_35 : decode cX3_near 35 = .ok (.aload_n 0, 1) := dk_42 (dk_at dksX3_near_1 11 rfl rfl)
theorem dX3_near_36 : decode cX3_near 36 = .ok (.iload_n 1, 1) := dk_27 (dk_at dksX3_near_1 12 rfl rfl)
theorem dX3_near_37 : decode cX3_near 37 = .ok (.iconst (-1), 1) := dk_2 (dk_at dksX3_near_1 13 rfl rfl)
theorem dX3_near_38 : decode cX3_near 38 = .ok (.if_icmp .eq 7, 3) := dk_159 0 7 (dk_at dksX3_near_1 14 rfl rfl)
theorem dX3_near_41 : decode cX3_near 41 = .ok (.iconst 1, 1) := dk_4 (dk_at dksX3_near_1 17 rfl rfl)
theorem dX3_near_42 : decode cX3_near 42 = .ok (.goto 4, 3) := dk_167 0 4 (dk_at dksX3_near_1 18 rfl rfl)
theorem dX3_near_45 : decode cX3_near 45 = .ok (.iconst 0, 1) := dk_3 (dk_at dksX3_near_1 21 rfl rfl)
theorem dX3_near_46 : decode cX3_near 46 = .ok (.invokevirtual 156, 3) := dk_182 0 156 (dk_at dksX3_near_2 0 rfl rfl)
theorem dX3_near_49 : decode cX3_near 49 = .ok (.ifCond .eq 20, 3) := dk_153 0 20 (dk_at dksX3_near_2 3 rfl rfl)
theorem dX3_near_52 : decode cX3_near 52 = .ok (.aload_n 0, 1) := dk_42 (dk_at dksX3_near_2 6 rfl rfl)
theorem dX3_near_53 : decode cX3_near 53 = .ok (.aload_n 0, 1) := dk_42 (dk_at dksX3_near_2 7 rfl rfl)
theorem dX3_near_54 : decode cX3_near 54 = .ok (.bipush 59, 2) := dk_16 59 (dk_at dksX3_near_2 8 rfl rfl)
theorem dX3_near_56 : decode cX3_near 56 = .ok (.invokevirtual 167, 3) := dk_182 0 167 (dk_at dksX3_near_2 10 rfl rfl)
theorem dX3_near_59 : decode cX3_near 59 = .ok (.invokevirtual 156, 3) := dk_182 0 156 (dk_at dksX3_near_2 13 rfl rfl)
theorem dX3_near_62 : decode cX3_near 62 = .ok (.ifCond .eq 7, 3) := dk_153 0 7 (dk_at dksX3_near_2 16 rfl rfl)
theorem dX3_near_65 : decode cX3_near 65 = .ok (.iconst 1, 1) := dk_4 (dk_at dksX3_near_2 19 rfl rfl)
theorem dX3_near_66 : decode cX3_near 66 = .ok (.goto 4, 3) := dk_167 0 4 (dk_at dksX3_near_2 20 rfl rfl)
theorem dX3_near_69 : decode cX3_near 69 = .ok (.iconst 0, 1) := dk_3 (dk_at dksX3_near_2 23 rfl rfl)
theorem dX3_near_70 : decode cX3_near 70 = .ok (.ireturn, 1) := dk_172 (dk_at dksX3_near_3 0 rfl rfl)
def dkwX3_isSign_1 : List UInt8 := [4, 167, 0, 4, 3, 172]
abbrev dktX3_isSign_1 : List UInt8 := dkwX3_isSign_1 ++ []
def dkwX3_isSign_0 : List UInt8 := [42, 180, 0, 126, 42, 180, 0, 114, 162, 0, 20, 42, 180, 0, 9, 42, 180, 0, 126, 51, 27, 160, 0, 7]
abbrev dktX3_isSign_0 : List UInt8 := dkwX3_isSign_0 ++ dktX3_isSign_1
theorem dksX3_isSign_0 : cX3_isSign.data.toList.drop 0 = dktX3_isSign_0 := by decide +kernel
theorem dksX3_isSign_1 : cX3_isSign.data.toList.drop 24 = dktX3_isSign_1 := dk_seg dksX3_isSign_0 24 rfl rfl
theorem dX3_isSign_0 : decode cX3_isSign 0 = .ok (.aload_n 0, 1) := dk_42 (dk_at dksX3_isSign_0 0 rfl rfl)
theorem dX3_isSign_1 : decode cX3_isSign 1 = .ok (.getfield 126, 3) := dk_180 0 126 (dk_at dksX3_isSign_0 1 rfl rfl)
theorem dX3_isSign_4 : decode cX3_isSign 4 = .ok (.aload_n 0, 1) := dk_42 (dk_at dksX3_isSign_0 4 rfl rfl)
theorem dX3_isSign_5 : decode cX3_isSign 5 = .ok (.getfield 114, 3) := dk_180 0 114 (dk_at dksX3_isSign_0 5 rfl rfl)
theorem dX3_isSign_8 : decode cX3_isSign 8 = .ok (.if_icmp .ge 20, 3) := dk_162 0 20 (dk_at dksX3_isSign_0 8 rfl rfl)
theorem dX3_isSign_11 : decode cX3_isSign 11 = .ok (.aload_n 0, 1) := dk_42 (dk_at dksX3_isSign_0 11 rfl rfl)
theorem dX3_isSign_12 : decode cX3_isSign 12 = .ok (.getfield 9, 3) := dk_180 0 9 (dk_at dksX3_isSign_0 12 rfl rfl)
theorem dX3_isSign_15 : decode cX3_isSign 15 = .ok (.aload_n 0, 1) := dk_42 (dk_at dksX3_isSign_0 15 rfl rfl)
theorem dX3_isSign_16 : decode cX3_isSign 16 = .ok (.getfield 126, 3) := dk_180 0 126 (dk_at dksX3_isSign_0 16 rfl rfl)
theorem dX3_isSign_19 : decode cX3_isSign 19 = .ok (.baload, 1) := dk_51 (dk_at dksX3_isSign_0 19 rfl rfl)
theorem dX3_isSign_20 : decode cX3_isSign 20 = .ok (.iload_n 1, 1) := dk_27 (dk_at dksX3_isSign_0 20 rfl rfl)
theorem dX3_isSign_21 : decode cX3_isSign 21 = .ok (.if_icmp .ne 7, 3) := dk_160 0 7 (dk_at dksX3_isSign_0 21 rfl rfl)
theorem dX3_isSign_24 : decode cX3_isSign 24 = .ok (.iconst 1, 1) := dk_4 (dk_at dksX3_isSign_1 0 rfl rfl)
theorem dX3_isSign_25 : decode cX3_isSign 25 = .ok (.goto 4, 3) := dk_167 0 4 (dk_at dksX3_isSign_1 1 rfl rfl)
theorem dX3_isSign_28 : decode cX3_isSign 28 = .ok (.iconst 0, 1) := dk_3 (dk_at dksX3_isSign_1 4 rfl rfl)
theorem dX3_isSign_29 : decode cX3_isSign 29 = .ok (.ireturn, 1) := dk_172 (dk_at dksX3_isSign_1 5 rfl rfl)
def dkwX3_stretch_2 : List UInt8 := [182, 0, 167, 182, 0, 156, 172]
abbrev dktX3_stretch_2 : List UInt8 := dkwX3_stretch_2 ++ []
def dkwX3_stretch_1 : List UInt8 := [154, 0, 5, 3, 172, 42, 27, 181, 0, 174, 42, 42, 180, 0, 153, 181, 0, 177, 42, 42, 16, 59]
abbrev dktX3_stretch_1 : List UInt8 := dkwX3_stretch_1 ++ dktX3_stretch_2
def dkwX3_stretch_0 : List UInt8 := [42, 4, 16, 9, 182, 0, 170, 154, 0, 5, 3, 172, 42, 180, 0, 153, 60, 42, 4, 16, 9, 182, 0, 170]
abbrev dktX3_stretch_0 : List UInt8 := dkwX3_stretch_0 ++ dktX3_stretch_1
theorem dksX3_stretch_0 : cX3_stretch.data.toList.drop 0 = dktX3_stretch_0 := by decide +kernel
theorem dksX3_stretch_1 : cX3_stretch.data.toList.drop 24 = dktX3_stretch_1 := dk_seg dksX3_stretch_0 24 rfl rfl
theorem dksX3_stretch_2 : cX3_stretch.data.toList.drop 46 = dktX3_stretch_2 := dk_seg dksX3_stretch_1 22 rfl rfl
theorem dX3_stretch_0 : decode cX3_stretch 0 = .ok (.aload_n 0, 1) := dk_42 (dk_at dksX3_stretch_0 0 rfl rfl)
theorem dX3_stretch_1 : decode cX3_stretch 1 = .ok (.iconst 1, 1) := dk_4 (dk_at dksX3_stretch_0 1 rfl rfl)
theorem dX3_stretch_2 : decode cX3_stretch 2 = .ok (.bipush 9, 2) := dk_16 9 (dk_at dksX3_stretch_0 2 rfl rfl)
theorem dX3_stretch_4 : decode cX3_stretch 4 = .ok (.invokevirtual 170, 3) := dk_182 0 170 (dk_at dksX3_stretch_0 4 rfl rfl)
theorem dX3_stretch_7 : decode cX3_stretch 7 = .ok (.ifCond .ne 5, 3) := dk_154 0 5 (dk_at dksX3_stretch_0 7 rfl rfl)
theorem dX3_stretch_10 : decode cX3_stretch 10 = .ok (.iconst 0, 1) := dk_3 (dk_at dksX3_stretch_0 10 rfl rfl)
theorem dX3_stretch_11 : decode cX3_stretch 11 = .ok (.ireturn, 1) := dk_172 (dk_at dksX3_stretch_0 11 rfl rfl)
theorem dX3_stretch_12 : decode cX3_stretch 12 = .ok (.aload_n 0, 1) := dk_42 (dk_at dksX3_stretch_0 12 rfl rfl)
theorem dX3_stretch_13 : decode cX3_stretch 13 = .ok (.getfield 153, 3) := dk_180 0 153 (dk_at dksX3_stretch_0 13 rfl rfl)
theorem dX3_stretch_16 : decode cX3_stretch 16 = .ok (.istore_n 1, 1) := dk_60 (dk_at dksX3_stretch_0 16 rfl rfl)
theorem dX3_stretch_17 : decode cX3_stretch 17 = .ok (.aload_n 0, 1) := dk_42 (dk_at dksX3_stretch_0 17 rfl rfl)
theorem dX3_stretch_18 : decode cX3_stretch 18 = .ok (.iconst 1, 1) := dk_4 (dk_at dksX3_stretch_0 18 rfl rfl)
theorem dX3_stretch_19 : decode cX3_stretch 19 = .ok (.bipush 9, 2) := dk_16 9 (dk_at dksX3_stretch_0 19 rfl rfl)
theorem dX3_stretch_21 : decode cX3_stretch 21 = .ok (.invokevirtual 170, 3) := dk_182 0 170 (dk_at dksX3_stretch_0 21 rfl rfl)
theorem dX3_stretch_24 : decode cX3_stretch 24 = .ok (.ifCond .ne 5, 3) := dk_154 0 5 (dk_at dksX3_stretch_1 0 rfl rfl)
theorem dX3_stretch_27 : decode cX3_stretch 27 = .ok (.iconst 0, 1) := dk_3 (dk_at dksX3_stretch_1 3 rfl rfl)
theorem dX3_stretch_28 : decode cX3_stretch 28 = .ok (.ireturn, 1) := dk_172 (dk_at dksX3_stretch_1 4 rfl rfl)
theorem dX3_stretch_29 : decode cX3_stretch 29 = .ok (.aload_n 0, 1) := dk_42 (dk_at dksX3_stretch_1 5 rfl rfl)
theorem dX3_stretch_30 : decode cX3_stretch 30 = .ok (.iload_n 1, 1) := dk_27 (dk_at dksX3_stretch_1 6 rfl rfl)
theorem dX3_stretch_31 : decode cX3_stretch 31 = .ok (.putfield 174, 3) := dk_181 0 174 (dk_at dksX3_stretch_1 7 rfl rfl)
theorem dX3_stretch_34 : decode cX3_stretch 34 = .ok (.aload_n 0, 1) := dk_42 (dk_at dksX3_stretch_1 10 rfl rfl)
theorem dX3_stretch_35 : decode cX3_stretch 35 = .ok (.aload_n 0, 1) := dk_42 (dk_at dksX3_stretch_1 11 rfl rfl)
theorem dX3_stretch_36 : decode cX3_stretch 36 = .ok (.getfield 153, 3) := dk_180 0 153 (dk_at dksX3_stretch_1 12 rfl rfl)
theorem dX3_stretch_39 : decode cX3_stretch 39 = .ok (.putfield 177, 3) := dk_181 0 177 (dk_at dksX3_stretch_1 15 rfl rfl)
theorem dX3_stretch_42 : decode cX3_stretch 42 = .ok (.aload_n 0, 1) := dk_42 (dk_at dksX3_stretch_1 18 rfl rfl)
theorem dX3_stretch_43 : decode cX3_stretch 43 = .ok (.aload_n 0, 1) := dk_42 (dk_at dksX3_stretch_1 19 rfl rfl)
theorem dX3_stretch_44 : decode cX3_stretch 44 = .ok (.bipush 59, 2) := dk_16 59 (dk_at dksX3_stretch_1 20 rfl rfl)
theorem dX3_stretch_46 : decode cX3_stretch 46 = .ok (.invokevirtual 167, 3) := dk_182 0 167 (dk_at dksX3_stretch_2 0 rfl rfl)
theorem dX3_stretch_49 : decode cX3_stretch 49 = .ok (.invokevirtual 156, 3) := dk_182 0 156 (dk_at dksX3_stretch_2 3 rfl rfl)
theorem dX3_stretch_52 : decode cX3_stretch 52 = .ok (.ireturn, 1) := dk_172 (dk_at dksX3_stretch_2 6 rfl rfl)
def dkwX3_number_5 : List UInt8 := [167, 0, 4, 3, 182, 0, 156, 172]
abbrev dktX3_number_5 : List UInt8 := dkwX3_number_5 ++ []
def dkwX3_number_4 : List UInt8 := [21, 4, 181, 0, 153, 42, 29, 153, 0, 20, 21, 4, 133, 27, 133, 28, 133, 184, 0, 122, 153, 0, 7, 4]
abbrev dktX3_number_4 : List UInt8 := dkwX3_number_4 ++ dktX3_number_5
def dkwX3_number_3 : List UInt8 := [21, 4, 104, 42, 180, 0, 9, 21, 5, 51, 96, 16, 48, 100, 54, 4, 132, 5, 1, 167, 255, 208, 42]
abbrev dktX3_number_3 : List UInt8 := dkwX3_number_3 ++ dktX3_number_4
def dkwX3_number_2 : List UInt8 := [42, 180, 0, 129, 162, 0, 41, 21, 4, 17, 3, 231, 164, 0, 9, 17, 39, 15, 167, 0, 19, 16, 10]
abbrev dktX3_number_2 : List UInt8 := dkwX3_number_2 ++ dktX3_number_3
def dkwX3_number_1 : List UInt8 := [153, 0, 7, 4, 167, 0, 4, 3, 62, 3, 54, 4, 42, 180, 0, 126, 54, 5, 29, 153, 0, 50, 21, 5]
abbrev dktX3_number_1 : List UInt8 := dkwX3_number_1 ++ dktX3_number_2
def dkwX3_number_0 : List UInt8 := [42, 180, 0, 126, 42, 180, 0, 114, 162, 0, 22, 42, 180, 0, 9, 42, 180, 0, 126, 51, 184, 0, 136]
abbrev dktX3_number_0 : List UInt8 := dkwX3_number_0 ++ dktX3_number_1
theorem dksX3_number_0 : cX3_number.data.toList.drop 0 = dktX3_number_0 := by decide +kernel
theorem dksX3_number_1 : cX3_number.data.toList.drop 23 = dktX3_number_1 := dk_seg dksX3_number_0 23 rfl rfl
theorem dksX3_number_2 : cX3_number.data.toList.drop 47 = dktX3_number_2 := dk_seg dksX3_number_1 24 rfl rfl
theorem dksX3_number_3 : cX3_number.data.toList.drop 70 = dktX3_number_3 := dk_seg dksX3_number_2 23 rfl rfl
theorem dksX3_number_4 : cX3_number.data.toList.drop 93 = dktX3_number_4 := dk_seg dksX3_number_3 23 rfl rfl
theorem dksX3_number_5 : cX3_number.data.toList.drop 117 = dktX3_number_5 := dk_seg dksX3_number_4 24 rfl rfl
theorem dX3_number_0 : decode cX3_number 0 = .ok (.aload_n 0, 1) := dk_42 (dk_at dksX3_number_0 0 rfl rfl)
theorem dX3_number_1 : decode cX3_number 1 = .ok (.getfield 126, 3) := dk_180 0 126 (dk_at dksX3_number_0 1 rfl rfl)
theorem dX3_number_4 : decode cX3_number 4 = .ok (.aload_n 0, 1) := dk_42 (dk_at dksX3_number_0 4 rfl rfl)
theorem dX3_number_5 : decode cX3_number 5 = .ok (.getfield 114, 3) := dk_180 0 114 (dk_at dksX3_number_0 5 rfl rfl)
theorem dX3_number_8 : decode cX3_number 8 = .ok (.if_icmp .ge 22, 3) := dk_162 0 22 (dk_at dksX3_number_0 8 rfl rfl)
theorem dX3_number_11 : decode cX3_number 11 = .ok (.aload_n 0, 1) := dk_42 (dk_at dksX3_number_0 11 rfl rfl)
theorem dX3_number_12 : decode cX3_number 12 = .ok (.getfield 9, 3) := dk_180 0 9 (dk_at dksX3_number_0 12 rfl rfl)
theorem dX3_number_15 : decode cX3_number 15 = .ok (.aload_n 0, 1) := dk_42 (dk_at dksX3_number_0 15 rfl rfl)
theorem dX3_number_16 : decode cX3_number 16 = .ok (.getfield 126, 3) := dk_180 0 126 (dk_at dksX3_number_0 16 rfl rfl)
theorem dX3_number_19 : decode cX3_number 19 = .ok (.baload, 1) := dk_51 (dk_at dksX3_number_0 19 rfl rfl)
theorem dX3_number_20 : decode cX3_number 20 = .ok (.invokestatic 136, 3) := dk_184 0 136 (dk_at dksX3_number_0 20 rfl rfl)
theorem dX3_number_23 : decode cX3_number 23 = .ok (.ifCond .eq 7, 3) := dk_153 0 7 (dk_at dksX3_number_1 0 rfl rfl)
theorem dX3_number_26 : decode cX3_number 26 = .ok (.iconst 1, 1) := dk_4 (dk_at dksX3_number_1 3 rfl rfl)
theorem dX3_number_27 : decode cX3_number 27 = .ok (.goto 4, 3) := dk_167 0 4 (dk_at dksX3_number_1 4 rfl rfl)
theorem dX3_number_30 : decode cX3_number 30 = .ok (.iconst 0, 1) := dk_3 (dk_at dksX3_number_1 7 rfl rfl)
theorem dX3_number_31 : decode cX3_number 31 = .ok (.istore_n 3, 1) := dk_62 (dk_at dksX3_number_1 8 rfl rfl)
theorem dX3_number_32 : decode cX3_number 32 = .ok (.iconst 0, 1) := dk_3 (dk_at dksX3_number_1 9 rfl rfl)
theorem dX3_number_33 : decode cX3_number 33 = .ok (.istore 4, 2) := dk_54 4 (dk_at dksX3_number_1 10 rfl rfl)
theorem dX3_number_35 : decode cX3_number 35 = .ok (.aload_n 0, 1) := dk_42 (dk_at dksX3_number_1 12 rfl rfl)
theorem dX3_number_36 : decode cX3_number 36 = .ok (.getfield 126, 3) := dk_180 0 126 (dk_at dksX3_number_1 13 rfl rfl)
theorem dX3_number_39 : decode cX3_number 39 = .ok (.istore 5, 2) := dk_54 5 (dk_at dksX3_number_1 16 rfl rfl)
theorem dX3_number_41 : decode cX3_number 41 = .ok (.iload_n 3, 1) := dk_29 (dk_at dksX3_number_1 18 rfl rfl)
theorem dX3_number_42 : decode cX3_number 42 = .ok (.ifCond .eq 50, 3) := dk_153 0 50 (dk_at dksX3_number_1 19 rfl rfl)
theorem dX3_number_45 : decode cX3_number 45 = .ok (.iload 5, 2) := dk_21 5 (dk_at dksX3_number_1 22 rfl rfl)
theorem dX3_number_47 : decode cX3_number 47 = .ok (.aload_n 0, 1) := dk_42 (dk_at dksX3_number_2 0 rfl rfl)
theorem dX3_number_48 : decode cX3_number 48 = .ok (.getfield 129, 3) := dk_180 0 129 (dk_at dksX3_number_2 1 rfl rfl)
theorem dX3_number_51 : decode cX3_number 51 = .ok (.if_icmp .ge 41, 3) := dk_162 0 41 (dk_at dksX3_number_2 4 rfl rfl)
theorem dX3_number_54 : decode cX3_number 54 = .ok (.iload 4, 2) := dk_21 4 (dk_at dksX3_number_2 7 rfl rfl)
theorem dX3_number_56 : decode cX3_number 56 = .ok (.sipush 999, 3) := dk_17 3 231 (dk_at dksX3_number_2 9 rfl rfl)
theorem dX3_number_59 : decode cX3_number 59 = .ok (.if_icmp .le 9, 3) := dk_164 0 9 (dk_at dksX3_number_2 12 rfl rfl)
theorem dX3_number_62 : decode cX3_number 62 = .ok (.sipush 9999, 3) := dk_17 39 15 (dk_at dksX3_number_2 15 rfl rfl)
theorem dX3_number_65 : decode cX3_number 65 = .ok (.goto 19, 3) := dk_167 0 19 (dk_at dksX3_number_2 18 rfl rfl)
theorem dX3_number_68 : decode cX3_number 68 = .ok (.bipush 10, 2) := dk_16 10 (dk_at dksX3_number_2 21 rfl rfl)
theorem dX3_number_70 : decode cX3_number 70 = .ok (.iload 4, 2) := dk_21 4 (dk_at dksX3_number_3 0 rfl rfl)
theorem dX3_number_72 : decode cX3_number 72 = .ok (.imul, 1) := dk_104 (dk_at dksX3_number_3 2 rfl rfl)
theorem dX3_number_73 : decode cX3_number 73 = .ok (.aload_n 0, 1) := dk_42 (dk_at dksX3_number_3 3 rfl rfl)
theorem dX3_number_74 : decode cX3_number 74 = .ok (.getfield 9, 3) := dk_180 0 9 (dk_at dksX3_number_3 4 rfl rfl)
theorem dX3_number_77 : decode cX3_number 77 = .ok (.iload 5, 2) := dk_21 5 (dk_at dksX3_number_3 7 rfl rfl)
theorem dX3_number_79 : decode cX3_number 79 = .ok (.baload, 1) := dk_51 (dk_at dksX3_number_3 9 rfl rfl)
theorem dX3_number_80 : decode cX3_number 80 = .ok (.iadd, 1) := dk_96 (dk_at dksX3_number_3 10 rfl rfl)
theorem dX3_number_81 : decode cX3_number 81 = .ok (.bipush 48, 2) := dk_16 48 (dk_at dksX3_number_3 11 rfl rfl)
theorem dX3_number_83 : decode cX3_number 83 = .ok (.isub, 1) := dk_100 (dk_at dksX3_number_3 13 rfl rfl)
theorem dX3_number_84 : decode cX3_number 84 = .ok (.istore 4, 2) := dk_54 4 (dk_at dksX3_number_3 14 rfl rfl)
theorem dX3_number_86 : decode cX3_number 86 = .ok (.iinc 5 1, 3) := dk_132 5 1 (dk_at dksX3_number_3 16 rfl rfl)
theorem dX3_number_89 : decode cX3_number 89 = .ok (.goto (-48), 3) := dk_167 255 208 (dk_at dksX3_number_3 19 rfl rfl)
theorem dX3_number_92 : decode cX3_number 92 = .ok (.aload_n 0, 1) := dk_42 (dk_at dksX3_number_3 22 rfl rfl)
theorem dX3_number_93 : decode cX3_number 93 = .ok (.iload 4, 2) := dk_21 4 (dk_at dksX3_number_4 0 rfl rfl)
theorem dX3_number_95 : decode cX3_number 95 = .ok (.putfield 153, 3) := dk_181 0 153 (dk_at dksX3_number_4 2 rfl rfl)
theorem dX3_number_98 : decode cX3_number 98 = .ok (.aload_n 0, 1) := dk_42 (dk_at dksX3_number_4 5 rfl rfl)
theorem dX3_number_99 : decode cX3_number 99 = .ok (.iload_n 3, 1) := dk_29 (dk_at dksX3_number_4 6 rfl rfl)
theorem dX3_number_100 : decode cX3_number 100 = .ok (.ifCond .eq 20, 3) := dk_153 0 20 (dk_at dksX3_number_4 7 rfl rfl)
theorem dX3_number_103 : decode cX3_number 103 = .ok (.iload 4, 2) := dk_21 4 (dk_at dksX3_number_4 10 rfl rfl)
theorem dX3_number_105 : decode cX3_number 105 = .ok (.i2l, 1) := dk_133 (dk_at dksX3_number_4 12 rfl rfl)
theorem dX3_number_106 : decode cX3_number 106 = .ok (.iload_n 1, 1) := dk_27 (dk_at dksX3_number_4 13 rfl rfl)
theorem dX3_number_107 : decode cX3_number 107 = .ok (.i2l, 1) := dk_133 (dk_at dksX3_number_4 14 rfl rfl)
theorem dX3_number_108 : decode cX3_number 108 = .ok (.iload_n 2, 1) := dk_28 (dk_at dksX3_number_4 15 rfl rfl)
theorem dX3_number_109 : decode cX3_number 109 = .ok (.i2l, 1) := dk_133 (dk_at dksX3_number_4 16 rfl rfl)
theorem dX3_number_110 : decode cX3_number 110 = .ok (.invokestatic 122, 3) := dk_184 0 122 (dk_at dksX3_number_4 17 rfl rfl)
theorem dX3_number_113 : decode cX3_number 113 = .ok (.ifCond .eq 7, 3) := dk_153 0 7 (dk_at dksX3_number_4 20 rfl rfl)
theorem dX3_number_116 : decode cX3_number 116 = .ok (.iconst 1, 1) := dk_4 (dk_at dksX3_number_4 23 rfl rfl)
theorem dX3_number_117 : decode cX3_number 117 = .ok (.goto 4, 3) := dk_167 0 4 (dk_at dksX3_number_5 0 rfl rfl)
theorem dX3_number_120 : decode cX3_number 120 = .ok (.iconst 0, 1) := dk_3 (dk_at dksX3_number_5 3 rfl rfl)
theorem dX3_number_121 : decode cX3_number 121 = .ok (.invokevirtual 156, 3) := dk_182 0 156 (dk_at dksX3_number_5 4 rfl rfl)
theorem dX3_number_124 : decode cX3_number 124 = .ok (.ireturn, 1) := dk_172 (dk_at dksX3_number_5 7 rfl rfl)
def dkwX3_voterRead_6 : List UInt8 := [180, 0, 39, 4, 92, 46, 4, 96, 79, 42, 42, 16, 59, 182, 0, 167, 182, 0, 156, 172]
abbrev dktX3_voterRead_6 : List UInt8 := dkwX3_voterRead_6 ++ []
def dkwX3_voterRead_5 : List UInt8 := [16, 9, 182, 0, 170, 154, 0, 5, 3, 172, 42, 180, 0, 21, 4, 50, 27, 42, 180, 0, 153, 79, 42]
abbrev dktX3_voterRead_5 : List UInt8 := dkwX3_voterRead_5 ++ dktX3_voterRead_6
def dkwX3_voterRead_4 : List UInt8 := [180, 0, 177, 79, 42, 18, 180, 182, 0, 160, 153, 0, 35, 42, 4, 182, 0, 156, 153, 0, 13, 42, 4]
abbrev dktX3_voterRead_4 : List UInt8 := dkwX3_voterRead_4 ++ dktX3_voterRead_5
def dkwX3_voterRead_3 : List UInt8 := [180, 0, 164, 79, 42, 180, 0, 27, 4, 50, 27, 42, 180, 0, 174, 79, 42, 180, 0, 30, 4, 50, 27, 42]
abbrev dktX3_voterRead_3 : List UInt8 := dkwX3_voterRead_3 ++ dktX3_voterRead_4
def dkwX3_voterRead_2 : List UInt8 := [50, 27, 42, 180, 0, 153, 79, 42, 180, 0, 21, 4, 50, 27, 4, 79, 42, 180, 0, 24, 4, 50, 27, 42]
abbrev dktX3_voterRead_2 : List UInt8 := dkwX3_voterRead_2 ++ dktX3_voterRead_3
def dkwX3_voterRead_1 : List UInt8 := [50, 27, 42, 180, 0, 153, 79, 42, 3, 16, 99, 182, 0, 170, 154, 0, 5, 3, 172, 42, 180, 0, 18, 4]
abbrev dktX3_voterRead_1 : List UInt8 := dkwX3_voterRead_1 ++ dktX3_voterRead_2
def dkwX3_voterRead_0 : List UInt8 := [42, 180, 0, 39, 4, 46, 60, 42, 3, 16, 99, 182, 0, 170, 154, 0, 5, 3, 172, 42, 180, 0, 15, 4]
abbrev dktX3_voterRead_0 : List UInt8 := dkwX3_voterRead_0 ++ dktX3_voterRead_1
theorem dksX3_voterRead_0 : cX3_voterRead.data.toList.drop 0 = dktX3_voterRead_0 := by decide +kernel
theorem dksX3_voterRead_1 : cX3_voterRead.data.toList.drop 24 = dktX3_voterRead_1 := dk_seg dksX3_voterRead_0 24 rfl rfl
theorem dksX3_voterRead_2 : cX3_voterRead.data.toList.drop 48 = dktX3_voterRead_2 := dk_seg dksX3_voterRead_1 24 rfl rfl
theorem dksX3_voterRead_3 : cX3_voterRead.data.toList.drop 72 = dktX3_voterRead_3 := dk_seg dksX3_voterRead_2 24 rfl rfl
theorem dksX3_voterRead_4 : cX3_voterRead.data.toList.drop 96 = dktX3_voterRead_4 := dk_seg dksX3_voterRead_3 24 rfl rfl
theorem dksX3_voterRead_5 : cX3_voterRead.data.toList.drop 119 = dktX3_voterRead_5 := dk_seg dksX3_voterRead_4 23 rfl rfl
theorem dksX3_voterRead_6 : cX3_voterRead.data.toList.drop 142 = dktX3_voterRead_6 := dk_seg dksX3_voterRead_5 23 rfl rfl
theorem dX3_voterRead_0 : decode cX3_voterRead 0 = .ok (.aload_n 0, 1) := dk_42 (dk_at dksX3_voterRead_0 0 rfl rfl)
theorem dX3_voterRead_1 : decode cX3_voterRead 1 = .ok (.getfield 39, 3) := dk_180 0 39 (dk_at dksX3_voterRead_0 1 rfl rfl)
theorem dX3_voterRead_4 : decode cX3_voterRead 4 = .ok (.iconst 1, 1) := dk_4 (dk_at dksX3_voterRead_0 4 rfl rfl)
theorem dX3_voterRead_5 : decode cX3_voterRead 5 = .ok (.iaload, 1) := dk_46 (dk_at dksX3_voterRead_0 5 rfl rfl)
theorem dX3_voterRead_6 : decode cX3_voterRead 6 = .ok (.istore_n 1, 1) := dk_60 (dk_at dksX3_voterRead_0 6 rfl rfl)
theorem dX3_voterRead_7 : decode cX3_voterRead 7 = .ok (.aload_n 0, 1) := dk_42 (dk_at dksX3_voterRead_0 7 rfl rfl)
theorem dX3_voterRead_8 : decode cX3_voterRead 8 = .ok (.iconst 0, 1) := dk_3 (dk_at dksX3_voterRead_0 8 rfl rfl)
theorem dX3_voterRead_9 : decode cX3_voterRead 9 = .ok (.bipush 99, 2) := dk_16 99 (dk_at dksX3_voterRead_0 9 rfl rfl)
theorem dX3_voterRead_11 : decode cX3_voterRead 11 = .ok (.invokevirtual 170, 3) := dk_182 0 170 (dk_at dksX3_voterRead_0 11 rfl rfl)
theorem dX3_voterRead_14 : decode cX3_voterRead 14 = .ok (.ifCond .ne 5, 3) := dk_154 0 5 (dk_at dksX3_voterRead_0 14 rfl rfl)
theorem dX3_voterRead_17 : decode cX3_voterRead 17 = .ok (.iconst 0, 1) := dk_3 (dk_at dksX3_voterRead_0 17 rfl rfl)
theorem dX3_voterRead_18 : decode cX3_voterRead 18 = .ok (.ireturn, 1) := dk_172 (dk_at dksX3_voterRead_0 18 rfl rfl)
theorem dX3_voterRead_19 : decode cX3_voterRead 19 = .ok (.aload_n 0, 1) := dk_42 (dk_at dksX3_voterRead_0 19 rfl rfl)
theorem dX3_voterRead_20 : decode cX3_voterRead 20 = .ok (.getfield 15, 3) := dk_180 0 15 (dk_at dksX3_voterRead_0 20 rfl rfl)
theorem dX3_voterRead_23 : decode cX3_voterRead 23 = .ok (.iconst 1, 1) := dk_4 (dk_at dksX3_voterRead_0 23 rfl rfl)
theorem dX3_voterRead_24 : decode cX3_voterRead 24 = .ok (.aaload, 1) := dk_50 (dk_at dksX3_voterRead_1 0 rfl rfl)
theorem dX3_voterRead_25 : decode cX3_voterRead 25 = .ok (.iload_n 1, 1) := dk_27 (dk_at dksX3_voterRead_1 1 rfl rfl)
theorem dX3_voterRead_26 : decode cX3_voterRead 26 = .ok (.aload_n 0, 1) := dk_42 (dk_at dksX3_voterRead_1 2 rfl rfl)
theorem dX3_voterRead_27 : decode cX3_voterRead 27 = .ok (.getfield 153, 3) := dk_180 0 153 (dk_at dksX3_voterRead_1 3 rfl rfl)
theorem dX3_voterRead_30 : decode cX3_voterRead 30 = .ok (.iastore, 1) := dk_79 (dk_at dksX3_voterRead_1 6 rfl rfl)
theorem dX3_voterRead_31 : decode cX3_voterRead 31 = .ok (.aload_n 0, 1) := dk_42 (dk_at dksX3_voterRead_1 7 rfl rfl)
theorem dX3_voterRead_32 : decode cX3_voterRead 32 = .ok (.iconst 0, 1) := dk_3 (dk_at dksX3_voterRead_1 8 rfl rfl)
theorem dX3_voterRead_33 : decode cX3_voterRead 33 = .ok (.bipush 99, 2) := dk_16 99 (dk_at dksX3_voterRead_1 9 rfl rfl)
theorem dX3_voterRead_35 : decode cX3_voterRead 35 = .ok (.invokevirtual 170, 3) := dk_182 0 170 (dk_at dksX3_voterRead_1 11 rfl rfl)
theorem dX3_voterRead_38 : decode cX3_voterRead 38 = .ok (.ifCond .ne 5, 3) := dk_154 0 5 (dk_at dksX3_voterRead_1 14 rfl rfl)
theorem dX3_voterRead_41 : decode cX3_voterRead 41 = .ok (.iconst 0, 1) := dk_3 (dk_at dksX3_voterRead_1 17 rfl rfl)
theorem dX3_voterRead_42 : decode cX3_voterRead 42 = .ok (.ireturn, 1) := dk_172 (dk_at dksX3_voterRead_1 18 rfl rfl)
theorem dX3_voterRead_43 : decode cX3_voterRead 43 = .ok (.aload_n 0, 1) := dk_42 (dk_at dksX3_voterRead_1 19 rfl rfl)
theorem dX3_voterRead_44 : decode cX3_voterRead 44 = .ok (.getfield 18, 3) := dk_180 0 18 (dk_at dksX3_voterRead_1 20 rfl rfl)
theorem dX3_voterRead_47 : decode cX3_voterRead 47 = .ok (.iconst 1, 1) := dk_4 (dk_at dksX3_voterRead_1 23 rfl rfl)
theorem dX3_voterRead_48 : decode cX3_voterRead 48 = .ok (.aaload, 1) := dk_50 (dk_at dksX3_voterRead_2 0 rfl rfl)
theorem dX3_voterRead_49 : decode cX3_voterRead 49 = .ok (.iload_n 1, 1) := dk_27 (dk_at dksX3_voterRead_2 1 rfl rfl)
theorem dX3_voterRead_50 : decode cX3_voterRead 50 = .ok (.aload_n 0, 1) := dk_42 (dk_at dksX3_voterRead_2 2 rfl rfl)
theorem dX3_voterRead_51 : decode cX3_voterRead 51 = .ok (.getfield 153, 3) := dk_180 0 153 (dk_at dksX3_voterRead_2 3 rfl rfl)
theorem dX3_voterRead_54 : decode cX3_voterRead 54 = .ok (.iastore, 1) := dk_79 (dk_at dksX3_voterRead_2 6 rfl rfl)
theorem dX3_voterRead_55 : decode cX3_voterRead 55 = .ok (.aload_n 0, 1) := dk_42 (dk_at dksX3_voterRead_2 7 rfl rfl)
theorem dX3_voterRead_56 : decode cX3_voterRead 56 = .ok (.getfield 21, 3) := dk_180 0 21 (dk_at dksX3_voterRead_2 8 rfl rfl)
theorem dX3_voterRead_59 : decode cX3_voterRead 59 = .ok (.iconst 1, 1) := dk_4 (dk_at dksX3_voterRead_2 11 rfl rfl)
theorem dX3_voterRead_60 : decode cX3_voterRead 60 = .ok (.aaload, 1) := dk_50 (dk_at dksX3_voterRead_2 12 rfl rfl)
theorem dX3_voterRead_61 : decode cX3_voterRead 61 = .ok (.iload_n 1, 1) := dk_27 (dk_at dksX3_voterRead_2 13 rfl rfl)
theorem dX3_voterRead_62 : decode cX3_voterRead 62 = .ok (.iconst 1, 1) := dk_4 (dk_at dksX3_voterRead_2 14 rfl rfl)
theorem dX3_voterRead_63 : decode cX3_voterRead 63 = .ok (.iastore, 1) := dk_79 (dk_at dksX3_voterRead_2 15 rfl rfl)
theorem dX3_voterRead_64 : decode cX3_voterRead 64 = .ok (.aload_n 0, 1) := dk_42 (dk_at dksX3_voterRead_2 16 rfl rfl)
theorem dX3_voterRead_65 : decode cX3_voterRead 65 = .ok (.getfield 24, 3) := dk_180 0 24 (dk_at dksX3_voterRead_2 17 rfl rfl)
theorem dX3_voterRead_68 : decode cX3_voterRead 68 = .ok (.iconst 1, 1) := dk_4 (dk_at dksX3_voterRead_2 20 rfl rfl)
theorem dX3_voterRead_69 : decode cX3_voterRead 69 = .ok (.aaload, 1) := dk_50 (dk_at dksX3_voterRead_2 21 rfl rfl)
theorem dX3_voterRead_70 : decode cX3_voterRead 70 = .ok (.iload_n 1, 1) := dk_27 (dk_at dksX3_voterRead_2 22 rfl rfl)
theorem dX3_voterRead_71 : decode cX3_voterRead 71 = .ok (.aload_n 0, 1) := dk_42 (dk_at dksX3_voterRead_2 23 rfl rfl)
theorem dX3_voterRead_72 : decode cX3_voterRead 72 = .ok (.getfield 164, 3) := dk_180 0 164 (dk_at dksX3_voterRead_3 0 rfl rfl)
theorem dX3_voterRead_75 : decode cX3_voterRead 75 = .ok (.iastore, 1) := dk_79 (dk_at dksX3_voterRead_3 3 rfl rfl)
theorem dX3_voterRead_76 : decode cX3_voterRead 76 = .ok (.aload_n 0, 1) := dk_42 (dk_at dksX3_voterRead_3 4 rfl rfl)
theorem dX3_voterRead_77 : decode cX3_voterRead 77 = .ok (.getfield 27, 3) := dk_180 0 27 (dk_at dksX3_voterRead_3 5 rfl rfl)
theorem dX3_voterRead_80 : decode cX3_voterRead 80 = .ok (.iconst 1, 1) := dk_4 (dk_at dksX3_voterRead_3 8 rfl rfl)
theorem dX3_voterRead_81 : decode cX3_voterRead 81 = .ok (.aaload, 1) := dk_50 (dk_at dksX3_voterRead_3 9 rfl rfl)
theorem dX3_voterRead_82 : decode cX3_voterRead 82 = .ok (.iload_n 1, 1) := dk_27 (dk_at dksX3_voterRead_3 10 rfl rfl)
theorem dX3_voterRead_83 : decode cX3_voterRead 83 = .ok (.aload_n 0, 1) := dk_42 (dk_at dksX3_voterRead_3 11 rfl rfl)
theorem dX3_voterRead_84 : decode cX3_voterRead 84 = .ok (.getfield 174, 3) := dk_180 0 174 (dk_at dksX3_voterRead_3 12 rfl rfl)
theorem dX3_voterRead_87 : decode cX3_voterRead 87 = .ok (.iastore, 1) := dk_79 (dk_at dksX3_voterRead_3 15 rfl rfl)
theorem dX3_voterRead_88 : decode cX3_voterRead 88 = .ok (.aload_n 0, 1) := dk_42 (dk_at dksX3_voterRead_3 16 rfl rfl)
theorem dX3_voterRead_89 : decode cX3_voterRead 89 = .ok (.getfield 30, 3) := dk_180 0 30 (dk_at dksX3_voterRead_3 17 rfl rfl)
theorem dX3_voterRead_92 : decode cX3_voterRead 92 = .ok (.iconst 1, 1) := dk_4 (dk_at dksX3_voterRead_3 20 rfl rfl)
theorem dX3_voterRead_93 : decode cX3_voterRead 93 = .ok (.aaload, 1) := dk_50 (dk_at dksX3_voterRead_3 21 rfl rfl)
theorem dX3_voterRead_94 : decode cX3_voterRead 94 = .ok (.iload_n 1, 1) := dk_27 (dk_at dksX3_voterRead_3 22 rfl rfl)
theorem dX3_voterRead_95 : decode cX3_voterRead 95 = .ok (.aload_n 0, 1) := dk_42 (dk_at dksX3_voterRead_3 23 rfl rfl)
theorem dX3_voterRead_96 : decode cX3_voterRead 96 = .ok (.getfield 177, 3) := dk_180 0 177 (dk_at dksX3_voterRead_4 0 rfl rfl)
theorem dX3_voterRead_99 : decode cX3_voterRead 99 = .ok (.iastore, 1) := dk_79 (dk_at dksX3_voterRead_4 3 rfl rfl)
theorem dX3_voterRead_100 : decode cX3_voterRead 100 = .ok (.aload_n 0, 1) := dk_42 (dk_at dksX3_voterRead_4 4 rfl rfl)
theorem dX3_voterRead_101 : decode cX3_voterRead 101 = .ok (.ldc 180, 2) := dk_18 180 (dk_at dksX3_voterRead_4 5 rfl rfl)
theorem dX3_voterRead_103 : decode cX3_voterRead 103 = .ok (.invokevirtual 160, 3) := dk_182 0 160 (dk_at dksX3_voterRead_4 7 rfl rfl)
theorem dX3_voterRead_106 : decode cX3_voterRead 106 = .ok (.ifCond .eq 35, 3) := dk_153 0 35 (dk_at dksX3_voterRead_4 10 rfl rfl)
theorem dX3_voterRead_109 : decode cX3_voterRead 109 = .ok (.aload_n 0, 1) := dk_42 (dk_at dksX3_voterRead_4 13 rfl rfl)
theorem dX3_voterRead_110 : decode cX3_voterRead 110 = .ok (.iconst 1, 1) := dk_4 (dk_at dksX3_voterRead_4 14 rfl rfl)
theorem dX3_voterRead_111 : decode cX3_voterRead 111 = .ok (.invokevirtual 156, 3) := dk_182 0 156 (dk_at dksX3_voterRead_4 15 rfl rfl)
theorem dX3_voterRead_114 : decode cX3_voterRead 114 = .ok (.ifCond .eq 13, 3) := dk_153 0 13 (dk_at dksX3_voterRead_4 18 rfl rfl)
theorem dX3_voterRead_117 : decode cX3_voterRead 117 = .ok (.aload_n 0, 1) := dk_42 (dk_at dksX3_voterRead_4 21 rfl rfl)
theorem dX3_voterRead_118 : decode cX3_voterRead 118 = .ok (.iconst 1, 1) := dk_4 (dk_at dksX3_voterRead_4 22 rfl rfl)
theorem dX3_voterRead_119 : decode cX3_voterRead 119 = .ok (.bipush 9, 2) := dk_16 9 (dk_at dksX3_voterRead_5 0 rfl rfl)
theorem dX3_voterRead_121 : decode cX3_voterRead 121 = .ok (.invokevirtual 170, 3) := dk_182 0 170 (dk_at dksX3_voterRead_5 2 rfl rfl)
theorem dX3_voterRead_124 : decode cX3_voterRead 124 = .ok (.ifCond .ne 5, 3) := dk_154 0 5 (dk_at dksX3_voterRead_5 5 rfl rfl)
theorem dX3_voterRead_127 : decode cX3_voterRead 127 = .ok (.iconst 0, 1) := dk_3 (dk_at dksX3_voterRead_5 8 rfl rfl)
theorem dX3_voterRead_128 : decode cX3_voterRead 128 = .ok (.ireturn, 1) := dk_172 (dk_at dksX3_voterRead_5 9 rfl rfl)
theorem dX3_voterRead_129 : decode cX3_voterRead 129 = .ok (.aload_n 0, 1) := dk_42 (dk_at dksX3_voterRead_5 10 rfl rfl)
theorem dX3_voterRead_130 : decode cX3_voterRead 130 = .ok (.getfield 21, 3) := dk_180 0 21 (dk_at dksX3_voterRead_5 11 rfl rfl)
theorem dX3_voterRead_133 : decode cX3_voterRead 133 = .ok (.iconst 1, 1) := dk_4 (dk_at dksX3_voterRead_5 14 rfl rfl)
theorem dX3_voterRead_134 : decode cX3_voterRead 134 = .ok (.aaload, 1) := dk_50 (dk_at dksX3_voterRead_5 15 rfl rfl)
theorem dX3_voterRead_135 : decode cX3_voterRead 135 = .ok (.iload_n 1, 1) := dk_27 (dk_at dksX3_voterRead_5 16 rfl rfl)
theorem dX3_voterRead_136 : decode cX3_voterRead 136 = .ok (.aload_n 0, 1) := dk_42 (dk_at dksX3_voterRead_5 17 rfl rfl)
theorem dX3_voterRead_137 : decode cX3_voterRead 137 = .ok (.getfield 153, 3) := dk_180 0 153 (dk_at dksX3_voterRead_5 18 rfl rfl)
theorem dX3_voterRead_140 : decode cX3_voterRead 140 = .ok (.iastore, 1) := dk_79 (dk_at dksX3_voterRead_5 21 rfl rfl)
theorem dX3_voterRead_141 : decode cX3_voterRead 141 = .ok (.aload_n 0, 1) := dk_42 (dk_at dksX3_voterRead_5 22 rfl rfl)
theorem dX3_voterRead_142 : decode cX3_voterRead 142 = .ok (.getfield 39, 3) := dk_180 0 39 (dk_at dksX3_voterRead_6 0 rfl rfl)
theorem dX3_voterRead_145 : decode cX3_voterRead 145 = .ok (.iconst 1, 1) := dk_4 (dk_at dksX3_voterRead_6 3 rfl rfl)
theorem dX3_voterRead_146 : decode cX3_voterRead 146 = .ok (.dup2, 1) := dk_92 (dk_at dksX3_voterRead_6 4 rfl rfl)
theorem dX3_voterRead_147 : decode cX3_voterRead 147 = .ok (.iaload, 1) := dk_46 (dk_at dksX3_voterRead_6 5 rfl rfl)
theorem dX3_voterRead_148 : decode cX3_voterRead 148 = .ok (.iconst 1, 1) := dk_4 (dk_at dksX3_voterRead_6 6 rfl rfl)
theorem dX3_voterRead_149 : decode cX3_voterRead 149 = .ok (.iadd, 1) := dk_96 (dk_at dksX3_voterRead_6 7 rfl rfl)
theorem dX3_voterRead_150 : decode cX3_voterRead 150 = .ok (.iastore, 1) := dk_79 (dk_at dksX3_voterRead_6 8 rfl rfl)
theorem dX3_voterRead_151 : decode cX3_voterRead 151 = .ok (.aload_n 0, 1) := dk_42 (dk_at dksX3_voterRead_6 9 rfl rfl)
theorem dX3_voterRead_152 : decode cX3_voterRead 152 = .ok (.aload_n 0, 1) := dk_42 (dk_at dksX3_voterRead_6 10 rfl rfl)
theorem dX3_voterRead_153 : decode cX3_voterRead 153 = .ok (.bipush 59, 2) := dk_16 59 (dk_at dksX3_voterRead_6 11 rfl rfl)
theorem dX3_voterRead_155 : decode cX3_voterRead 155 = .ok (.invokevirtual 167, 3) := dk_182 0 167 (dk_at dksX3_voterRead_6 13 rfl rfl)
theorem dX3_voterRead_158 : decode cX3_voterRead 158 = .ok (.invokevirtual 156, 3) := dk_182 0 156 (dk_at dksX3_voterRead_6 16 rfl rfl)
theorem dX3_voterRead_161 : decode cX3_voterRead 161 = .ok (.ireturn, 1) := dk_172 (dk_at dksX3_voterRead_6 19 rfl rfl)
def dkwX3_placeRead_3 : List UInt8 := [182, 0, 156, 172]
abbrev dktX3_placeRead_3 : List UInt8 := dkwX3_placeRead_3 ++ []
def dkwX3_placeRead_2 : List UInt8 := [50, 27, 42, 180, 0, 153, 79, 42, 180, 0, 43, 4, 92, 46, 4, 96, 79, 42, 42, 16, 59, 182, 0, 167]
abbrev dktX3_placeRead_2 : List UInt8 := dkwX3_placeRead_2 ++ dktX3_placeRead_3
def dkwX3_placeRead_1 : List UInt8 := [50, 27, 42, 180, 0, 153, 79, 42, 3, 16, 99, 182, 0, 170, 154, 0, 5, 3, 172, 42, 180, 0, 36, 4]
abbrev dktX3_placeRead_1 : List UInt8 := dkwX3_placeRead_1 ++ dktX3_placeRead_2
def dkwX3_placeRead_0 : List UInt8 := [42, 180, 0, 43, 4, 46, 60, 42, 3, 16, 99, 182, 0, 170, 154, 0, 5, 3, 172, 42, 180, 0, 33, 4]
abbrev dktX3_placeRead_0 : List UInt8 := dkwX3_placeRead_0 ++ dktX3_placeRead_1
theorem dksX3_placeRead_0 : cX3_placeRead.data.toList.drop 0 = dktX3_placeRead_0 := by decide +kernel
theorem dksX3_placeRead_1 : cX3_placeRead.data.toList.drop 24 = dktX3_placeRead_1 := dk_seg dksX3_placeRead_0 24 rfl rfl
theorem dksX3_placeRead_2 : cX3_placeRead.data.toList.drop 48 = dktX3_placeRead_2 := dk_seg dksX3_placeRead_1 24 rfl rfl
theorem dksX3_placeRead_3 : cX3_placeRead.data.toList.drop 72 = dktX3_placeRead_3 := dk_seg dksX3_placeRead_2 24 rfl rfl
theorem dX3_placeRead_0 : decode cX3_placeRead 0 = .ok (.aload_n 0, 1) := dk_42 (dk_at dksX3_placeRead_0 0 rfl rfl)
theorem dX3_placeRead_1 : decode cX3_placeRead 1 = .ok (.getfield 43, 3) := dk_180 0 43 (dk_at dksX3_placeRead_0 1 rfl rfl)
theorem dX3_placeRead_4 : decode cX3_placeRead 4 = .ok (.iconst 1, 1) := dk_4 (dk_at dksX3_placeRead_0 4 rfl rfl)
theorem dX3_placeRead_5 : decode cX3_placeRead 5 = .ok (.iaload, 1) := dk_46 (dk_at dksX3_placeRead_0 5 rfl rfl)
theorem dX3_placeRead_6 : decode cX3_placeRead 6 = .ok (.istore_n 1, 1) := dk_60 (dk_at dksX3_placeRead_0 6 rfl rfl)
theorem dX3_placeRead_7 : decode cX3_placeRead 7 = .ok (.aload_n 0, 1) := dk_42 (dk_at dksX3_placeRead_0 7 rfl rfl)
theorem dX3_placeRead_8 : decode cX3_placeRead 8 = .ok (.iconst 0, 1) := dk_3 (dk_at dksX3_placeRead_0 8 rfl rfl)
theorem dX3_placeRead_9 : decode cX3_placeRead 9 = .ok (.bipush 99, 2) := dk_16 99 (dk_at dksX3_placeRead_0 9 rfl rfl)
theorem dX3_placeRead_11 : decode cX3_placeRead 11 = .ok (.invokevirtual 170, 3) := dk_182 0 170 (dk_at dksX3_placeRead_0 11 rfl rfl)
theorem dX3_placeRead_14 : decode cX3_placeRead 14 = .ok (.ifCond .ne 5, 3) := dk_154 0 5 (dk_at dksX3_placeRead_0 14 rfl rfl)
theorem dX3_placeRead_17 : decode cX3_placeRead 17 = .ok (.iconst 0, 1) := dk_3 (dk_at dksX3_placeRead_0 17 rfl rfl)
theorem dX3_placeRead_18 : decode cX3_placeRead 18 = .ok (.ireturn, 1) := dk_172 (dk_at dksX3_placeRead_0 18 rfl rfl)
theorem dX3_placeRead_19 : decode cX3_placeRead 19 = .ok (.aload_n 0, 1) := dk_42 (dk_at dksX3_placeRead_0 19 rfl rfl)
theorem dX3_placeRead_20 : decode cX3_placeRead 20 = .ok (.getfield 33, 3) := dk_180 0 33 (dk_at dksX3_placeRead_0 20 rfl rfl)
theorem dX3_placeRead_23 : decode cX3_placeRead 23 = .ok (.iconst 1, 1) := dk_4 (dk_at dksX3_placeRead_0 23 rfl rfl)
theorem dX3_placeRead_24 : decode cX3_placeRead 24 = .ok (.aaload, 1) := dk_50 (dk_at dksX3_placeRead_1 0 rfl rfl)
theorem dX3_placeRead_25 : decode cX3_placeRead 25 = .ok (.iload_n 1, 1) := dk_27 (dk_at dksX3_placeRead_1 1 rfl rfl)
theorem dX3_placeRead_26 : decode cX3_placeRead 26 = .ok (.aload_n 0, 1) := dk_42 (dk_at dksX3_placeRead_1 2 rfl rfl)
theorem dX3_placeRead_27 : decode cX3_placeRead 27 = .ok (.getfield 153, 3) := dk_180 0 153 (dk_at dksX3_placeRead_1 3 rfl rfl)
theorem dX3_placeRead_30 : decode cX3_placeRead 30 = .ok (.iastore, 1) := dk_79 (dk_at dksX3_placeRead_1 6 rfl rfl)
theorem dX3_placeRead_31 : decode cX3_placeRead 31 = .ok (.aload_n 0, 1) := dk_42 (dk_at dksX3_placeRead_1 7 rfl rfl)
theorem dX3_placeRead_32 : decode cX3_placeRead 32 = .ok (.iconst 0, 1) := dk_3 (dk_at dksX3_placeRead_1 8 rfl rfl)
theorem dX3_placeRead_33 : decode cX3_placeRead 33 = .ok (.bipush 99, 2) := dk_16 99 (dk_at dksX3_placeRead_1 9 rfl rfl)
theorem dX3_placeRead_35 : decode cX3_placeRead 35 = .ok (.invokevirtual 170, 3) := dk_182 0 170 (dk_at dksX3_placeRead_1 11 rfl rfl)
theorem dX3_placeRead_38 : decode cX3_placeRead 38 = .ok (.ifCond .ne 5, 3) := dk_154 0 5 (dk_at dksX3_placeRead_1 14 rfl rfl)
theorem dX3_placeRead_41 : decode cX3_placeRead 41 = .ok (.iconst 0, 1) := dk_3 (dk_at dksX3_placeRead_1 17 rfl rfl)
theorem dX3_placeRead_42 : decode cX3_placeRead 42 = .ok (.ireturn, 1) := dk_172 (dk_at dksX3_placeRead_1 18 rfl rfl)
theorem dX3_placeRead_43 : decode cX3_placeRead 43 = .ok (.aload_n 0, 1) := dk_42 (dk_at dksX3_placeRead_1 19 rfl rfl)
theorem dX3_placeRead_44 : decode cX3_placeRead 44 = .ok (.getfield 36, 3) := dk_180 0 36 (dk_at dksX3_placeRead_1 20 rfl rfl)
theorem dX3_placeRead_47 : decode cX3_placeRead 47 = .ok (.iconst 1, 1) := dk_4 (dk_at dksX3_placeRead_1 23 rfl rfl)
theorem dX3_placeRead_48 : decode cX3_placeRead 48 = .ok (.aaload, 1) := dk_50 (dk_at dksX3_placeRead_2 0 rfl rfl)
theorem dX3_placeRead_49 : decode cX3_placeRead 49 = .ok (.iload_n 1, 1) := dk_27 (dk_at dksX3_placeRead_2 1 rfl rfl)
theorem dX3_placeRead_50 : decode cX3_placeRead 50 = .ok (.aload_n 0, 1) := dk_42 (dk_at dksX3_placeRead_2 2 rfl rfl)
theorem dX3_placeRead_51 : decode cX3_placeRead 51 = .ok (.getfield 153, 3) := dk_180 0 153 (dk_at dksX3_placeRead_2 3 rfl rfl)
theorem dX3_placeRead_54 : decode cX3_placeRead 54 = .ok (.iastore, 1) := dk_79 (dk_at dksX3_placeRead_2 6 rfl rfl)
theorem dX3_placeRead_55 : decode cX3_placeRead 55 = .ok (.aload_n 0, 1) := dk_42 (dk_at dksX3_placeRead_2 7 rfl rfl)
theorem dX3_placeRead_56 : decode cX3_placeRead 56 = .ok (.getfield 43, 3) := dk_180 0 43 (dk_at dksX3_placeRead_2 8 rfl rfl)
theorem dX3_placeRead_59 : decode cX3_placeRead 59 = .ok (.iconst 1, 1) := dk_4 (dk_at dksX3_placeRead_2 11 rfl rfl)
theorem dX3_placeRead_60 : decode cX3_placeRead 60 = .ok (.dup2, 1) := dk_92 (dk_at dksX3_placeRead_2 12 rfl rfl)
theorem dX3_placeRead_61 : decode cX3_placeRead 61 = .ok (.iaload, 1) := dk_46 (dk_at dksX3_placeRead_2 13 rfl rfl)
theorem dX3_placeRead_62 : decode cX3_placeRead 62 = .ok (.iconst 1, 1) := dk_4 (dk_at dksX3_placeRead_2 14 rfl rfl)
theorem dX3_placeRead_63 : decode cX3_placeRead 63 = .ok (.iadd, 1) := dk_96 (dk_at dksX3_placeRead_2 15 rfl rfl)
theorem dX3_placeRead_64 : decode cX3_placeRead 64 = .ok (.iastore, 1) := dk_79 (dk_at dksX3_placeRead_2 16 rfl rfl)
theorem dX3_placeRead_65 : decode cX3_placeRead 65 = .ok (.aload_n 0, 1) := dk_42 (dk_at dksX3_placeRead_2 17 rfl rfl)
theorem dX3_placeRead_66 : decode cX3_placeRead 66 = .ok (.aload_n 0, 1) := dk_42 (dk_at dksX3_placeRead_2 18 rfl rfl)
theorem dX3_placeRead_67 : decode cX3_placeRead 67 = .ok (.bipush 59, 2) := dk_16 59 (dk_at dksX3_placeRead_2 19 rfl rfl)
theorem dX3_placeRead_69 : decode cX3_placeRead 69 = .ok (.invokevirtual 167, 3) := dk_182 0 167 (dk_at dksX3_placeRead_2 21 rfl rfl)
theorem dX3_placeRead_72 : decode cX3_placeRead 72 = .ok (.invokevirtual 156, 3) := dk_182 0 156 (dk_at dksX3_placeRead_3 0 rfl rfl)
theorem dX3_placeRead_75 : decode cX3_placeRead 75 = .ok (.ireturn, 1) := dk_172 (dk_at dksX3_placeRead_3 3 rfl rfl)
def dkwX3_winRead_7 : List UInt8 := [180, 0, 153, 79, 42, 42, 16, 59, 182, 0, 167, 182, 0, 156, 172]
abbrev dktX3_winRead_7 : List UInt8 := dkwX3_winRead_7 ++ []
def dkwX3_winRead_6 : List UInt8 := [180, 0, 49, 4, 46, 104, 184, 0, 198, 182, 0, 170, 154, 0, 5, 3, 172, 42, 180, 0, 52, 4, 42]
abbrev dktX3_winRead_6 : List UInt8 := dkwX3_winRead_6 ++ dktX3_winRead_7
def dkwX3_winRead_5 : List UInt8 := [182, 0, 167, 182, 0, 156, 153, 0, 33, 42, 4, 42, 180, 0, 49, 4, 46, 184, 0, 192, 16, 99, 5, 42]
abbrev dktX3_winRead_5 : List UInt8 := dkwX3_winRead_5 ++ dktX3_winRead_6
def dkwX3_winRead_4 : List UInt8 := [182, 0, 170, 154, 0, 5, 3, 172, 42, 180, 0, 49, 4, 42, 180, 0, 153, 79, 42, 42, 16, 47]
abbrev dktX3_winRead_4 : List UInt8 := dkwX3_winRead_4 ++ dktX3_winRead_5
def dkwX3_winRead_3 : List UInt8 := [42, 18, 190, 182, 0, 160, 153, 0, 7, 4, 167, 0, 4, 3, 182, 0, 156, 153, 0, 13, 42, 4, 16, 99]
abbrev dktX3_winRead_3 : List UInt8 := dkwX3_winRead_3 ++ dktX3_winRead_4
def dkwX3_winRead_2 : List UInt8 := [18, 188, 182, 0, 160, 153, 0, 7, 4, 167, 0, 4, 5, 79, 42, 42, 18, 188, 182, 0, 160, 154, 0, 12]
abbrev dktX3_winRead_2 : List UInt8 := dkwX3_winRead_2 ++ dktX3_winRead_3
def dkwX3_winRead_1 : List UInt8 := [16, 59, 182, 0, 167, 182, 0, 156, 153, 0, 7, 4, 167, 0, 4, 3, 172, 42, 180, 0, 46, 4, 42]
abbrev dktX3_winRead_1 : List UInt8 := dkwX3_winRead_1 ++ dktX3_winRead_2
def dkwX3_winRead_0 : List UInt8 := [42, 4, 181, 0, 182, 42, 18, 186, 182, 0, 160, 153, 0, 30, 42, 4, 182, 0, 156, 153, 0, 20, 42, 42]
abbrev dktX3_winRead_0 : List UInt8 := dkwX3_winRead_0 ++ dktX3_winRead_1
theorem dksX3_winRead_0 : cX3_winRead.data.toList.drop 0 = dktX3_winRead_0 := by decide +kernel
theorem dksX3_winRead_1 : cX3_winRead.data.toList.drop 24 = dktX3_winRead_1 := dk_seg dksX3_winRead_0 24 rfl rfl
theorem dksX3_winRead_2 : cX3_winRead.data.toList.drop 47 = dktX3_winRead_2 := dk_seg dksX3_winRead_1 23 rfl rfl
theorem dksX3_winRead_3 : cX3_winRead.data.toList.drop 71 = dktX3_winRead_3 := dk_seg dksX3_winRead_2 24 rfl rfl
theorem dksX3_winRead_4 : cX3_winRead.data.toList.drop 95 = dktX3_winRead_4 := dk_seg dksX3_winRead_3 24 rfl rfl
theorem dksX3_winRead_5 : cX3_winRead.data.toList.drop 117 = dktX3_winRead_5 := dk_seg dksX3_winRead_4 22 rfl rfl
theorem dksX3_winRead_6 : cX3_winRead.data.toList.drop 141 = dktX3_winRead_6 := dk_seg dksX3_winRead_5 24 rfl rfl
theorem dksX3_winRead_7 : cX3_winRead.data.toList.drop 164 = dktX3_winRead_7 := dk_seg dksX3_winRead_6 23 rfl rfl
theorem dX3_winRead_0 : decode cX3_winRead 0 = .ok (.aload_n 0, 1) := dk_42 (dk_at dksX3_winRead_0 0 rfl rfl)
theorem dX3_winRead_1 : decode cX3_winRead 1 = .ok (.iconst 1, 1) := dk_4 (dk_at dksX3_winRead_0 1 rfl rfl)
theorem dX3_winRead_2 : decode cX3_winRead 2 = .ok (.putfield 182, 3) := dk_181 0 182 (dk_at dksX3_winRead_0 2 rfl rfl)
theorem dX3_winRead_5 : decode cX3_winRead 5 = .ok (.aload_n 0, 1) := dk_42 (dk_at dksX3_winRead_0 5 rfl rfl)
theorem dX3_winRead_6 : decode cX3_winRead 6 = .ok (.ldc 186, 2) := dk_18 186 (dk_at dksX3_winRead_0 6 rfl rfl)
theorem dX3_winRead_8 : decode cX3_winRead 8 = .ok (.invokevirtual 160, 3) := dk_182 0 160 (dk_at dksX3_winRead_0 8 rfl rfl)
theorem dX3_winRead_11 : decode cX3_winRead 11 = .ok (.ifCond .eq 30, 3) := dk_153 0 30 (dk_at dksX3_winRead_0 11 rfl rfl)
theorem dX3_winRead_14 : decode cX3_winRead 14 = .ok (.aload_n 0, 1) := dk_42 (dk_at dksX3_winRead_0 14 rfl rfl)
theorem dX3_winRead_15 : decode cX3_winRead 15 = .ok (.iconst 1, 1) := dk_4 (dk_at dksX3_winRead_0 15 rfl rfl)
theorem dX3_winRead_16 : decode cX3_winRead 16 = .ok (.invokevirtual 156, 3) := dk_182 0 156 (dk_at dksX3_winRead_0 16 rfl rfl)
theorem dX3_winRead_19 : decode cX3_winRead 19 = .ok (.ifCond .eq 20, 3) := dk_153 0 20 (dk_at dksX3_winRead_0 19 rfl rfl)
theorem dX3_winRead_22 : decode cX3_winRead 22 = .ok (.aload_n 0, 1) := dk_42 (dk_at dksX3_winRead_0 22 rfl rfl)
theorem dX3_winRead_23 : decode cX3_winRead 23 = .ok (.aload_n 0, 1) := dk_42 (dk_at dksX3_winRead_0 23 rfl rfl)
theorem dX3_winRead_24 : decode cX3_winRead 24 = .ok (.bipush 59, 2) := dk_16 59 (dk_at dksX3_winRead_1 0 rfl rfl)
theorem dX3_winRead_26 : decode cX3_winRead 26 = .ok (.invokevirtual 167, 3) := dk_182 0 167 (dk_at dksX3_winRead_1 2 rfl rfl)
theorem dX3_winRead_29 : decode cX3_winRead 29 = .ok (.invokevirtual 156, 3) := dk_182 0 156 (dk_at dksX3_winRead_1 5 rfl rfl)
theorem dX3_winRead_32 : decode cX3_winRead 32 = .ok (.ifCond .eq 7, 3) := dk_153 0 7 (dk_at dksX3_winRead_1 8 rfl rfl)
theorem dX3_winRead_35 : decode cX3_winRead 35 = .ok (.iconst 1, 1) := dk_4 (dk_at dksX3_winRead_1 11 rfl rfl)
theorem dX3_winRead_36 : decode cX3_winRead 36 = .ok (.goto 4, 3) := dk_167 0 4 (dk_at dksX3_winRead_1 12 rfl rfl)
theorem dX3_winRead_39 : decode cX3_winRead 39 = .ok (.iconst 0, 1) := dk_3 (dk_at dksX3_winRead_1 15 rfl rfl)
theorem dX3_winRead_40 : decode cX3_winRead 40 = .ok (.ireturn, 1) := dk_172 (dk_at dksX3_winRead_1 16 rfl rfl)
theorem dX3_winRead_41 : decode cX3_winRead 41 = .ok (.aload_n 0, 1) := dk_42 (dk_at dksX3_winRead_1 17 rfl rfl)
theorem dX3_winRead_42 : decode cX3_winRead 42 = .ok (.getfield 46, 3) := dk_180 0 46 (dk_at dksX3_winRead_1 18 rfl rfl)
theorem dX3_winRead_45 : decode cX3_winRead 45 = .ok (.iconst 1, 1) := dk_4 (dk_at dksX3_winRead_1 21 rfl rfl)
theorem dX3_winRead_46 : decode cX3_winRead 46 = .ok (.aload_n 0, 1) := dk_42 (dk_at dksX3_winRead_1 22 rfl rfl)
theorem dX3_winRead_47 : decode cX3_winRead 47 = .ok (.ldc 188, 2) := dk_18 188 (dk_at dksX3_winRead_2 0 rfl rfl)
theorem dX3_winRead_49 : decode cX3_winRead 49 = .ok (.invokevirtual 160, 3) := dk_182 0 160 (dk_at dksX3_winRead_2 2 rfl rfl)
theorem dX3_winRead_52 : decode cX3_winRead 52 = .ok (.ifCond .eq 7, 3) := dk_153 0 7 (dk_at dksX3_winRead_2 5 rfl rfl)
theorem dX3_winRead_55 : decode cX3_winRead 55 = .ok (.iconst 1, 1) := dk_4 (dk_at dksX3_winRead_2 8 rfl rfl)
theorem dX3_winRead_56 : decode cX3_winRead 56 = .ok (.goto 4, 3) := dk_167 0 4 (dk_at dksX3_winRead_2 9 rfl rfl)
theorem dX3_winRead_59 : decode cX3_winRead 59 = .ok (.iconst 2, 1) := dk_5 (dk_at dksX3_winRead_2 12 rfl rfl)
theorem dX3_winRead_60 : decode cX3_winRead 60 = .ok (.iastore, 1) := dk_79 (dk_at dksX3_winRead_2 13 rfl rfl)
theorem dX3_winRead_61 : decode cX3_winRead 61 = .ok (.aload_n 0, 1) := dk_42 (dk_at dksX3_winRead_2 14 rfl rfl)
theorem dX3_winRead_62 : decode cX3_winRead 62 = .ok (.aload_n 0, 1) := dk_42 (dk_at dksX3_winRead_2 15 rfl rfl)
theorem dX3_winRead_63 : decode cX3_winRead 63 = .ok (.ldc 188, 2) := dk_18 188 (dk_at dksX3_winRead_2 16 rfl rfl)
theorem dX3_winRead_65 : decode cX3_winRead 65 = .ok (.invokevirtual 160, 3) := dk_182 0 160 (dk_at dksX3_winRead_2 18 rfl rfl)
theorem dX3_winRead_68 : decode cX3_winRead 68 = .ok (.ifCond .ne 12, 3) := dk_154 0 12 (dk_at dksX3_winRead_2 21 rfl rfl)
theorem dX3_winRead_71 : decode cX3_winRead 71 = .ok (.aload_n 0, 1) := dk_42 (dk_at dksX3_winRead_3 0 rfl rfl)
theorem dX3_winRead_72 : decode cX3_winRead 72 = .ok (.ldc 190, 2) := dk_18 190 (dk_at dksX3_winRead_3 1 rfl rfl)
theorem dX3_winRead_74 : decode cX3_winRead 74 = .ok (.invokevirtual 160, 3) := dk_182 0 160 (dk_at dksX3_winRead_3 3 rfl rfl)
theorem dX3_winRead_77 : decode cX3_winRead 77 = .ok (.ifCond .eq 7, 3) := dk_153 0 7 (dk_at dksX3_winRead_3 6 rfl rfl)
theorem dX3_winRead_80 : decode cX3_winRead 80 = .ok (.iconst 1, 1) := dk_4 (dk_at dksX3_winRead_3 9 rfl rfl)
theorem dX3_winRead_81 : decode cX3_winRead 81 = .ok (.goto 4, 3) := dk_167 0 4 (dk_at dksX3_winRead_3 10 rfl rfl)
theorem dX3_winRead_84 : decode cX3_winRead 84 = .ok (.iconst 0, 1) := dk_3 (dk_at dksX3_winRead_3 13 rfl rfl)
theorem dX3_winRead_85 : decode cX3_winRead 85 = .ok (.invokevirtual 156, 3) := dk_182 0 156 (dk_at dksX3_winRead_3 14 rfl rfl)
theorem dX3_winRead_88 : decode cX3_winRead 88 = .ok (.ifCond .eq 13, 3) := dk_153 0 13 (dk_at dksX3_winRead_3 17 rfl rfl)
theorem dX3_winRead_91 : decode cX3_winRead 91 = .ok (.aload_n 0, 1) := dk_42 (dk_at dksX3_winRead_3 20 rfl rfl)
theorem dX3_winRead_92 : decode cX3_winRead 92 = .ok (.iconst 1, 1) := dk_4 (dk_at dksX3_winRead_3 21 rfl rfl)
theorem dX3_winRead_93 : decode cX3_winRead 93 = .ok (.bipush 99, 2) := dk_16 99 (dk_at dksX3_winRead_3 22 rfl rfl)
theorem dX3_winRead_95 : decode cX3_winRead 95 = .ok (.invokevirtual 170, 3) := dk_182 0 170 (dk_at dksX3_winRead_4 0 rfl rfl)
theorem dX3_winRead_98 : decode cX3_winRead 98 = .ok (.ifCond .ne 5, 3) := dk_154 0 5 (dk_at dksX3_winRead_4 3 rfl rfl)
theorem dX3_winRead_101 : decode cX3_winRead 101 = .ok (.iconst 0, 1) := dk_3 (dk_at dksX3_winRead_4 6 rfl rfl)
theorem dX3_winRead_102 : decode cX3_winRead 102 = .ok (.ireturn, 1) := dk_172 (dk_at dksX3_winRead_4 7 rfl rfl)
theorem dX3_winRead_103 : decode cX3_winRead 103 = .ok (.aload_n 0, 1) := dk_42 (dk_at dksX3_winRead_4 8 rfl rfl)
theorem dX3_winRead_104 : decode cX3_winRead 104 = .ok (.getfield 49, 3) := dk_180 0 49 (dk_at dksX3_winRead_4 9 rfl rfl)
theorem dX3_winRead_107 : decode cX3_winRead 107 = .ok (.iconst 1, 1) := dk_4 (dk_at dksX3_winRead_4 12 rfl rfl)
theorem dX3_winRead_108 : decode cX3_winRead 108 = .ok (.aload_n 0, 1) := dk_42 (dk_at dksX3_winRead_4 13 rfl rfl)
theorem dX3_winRead_109 : decode cX3_winRead 109 = .ok (.getfield 153, 3) := dk_180 0 153 (dk_at dksX3_winRead_4 14 rfl rfl)
theorem dX3_winRead_112 : decode cX3_winRead 112 = .ok (.iastore, 1) := dk_79 (dk_at dksX3_winRead_4 17 rfl rfl)
theorem dX3_winRead_113 : decode cX3_winRead 113 = .ok (.aload_n 0, 1) := dk_42 (dk_at dksX3_winRead_4 18 rfl rfl)
theorem dX3_winRead_114 : decode cX3_winRead 114 = .ok (.aload_n 0, 1) := dk_42 (dk_at dksX3_winRead_4 19 rfl rfl)
theorem dX3_winRead_115 : decode cX3_winRead 115 = .ok (.bipush 47, 2) := dk_16 47 (dk_at dksX3_winRead_4 20 rfl rfl)
theorem dX3_winRead_117 : decode cX3_winRead 117 = .ok (.invokevirtual 167, 3) := dk_182 0 167 (dk_at dksX3_winRead_5 0 rfl rfl)
theorem dX3_winRead_120 : decode cX3_winRead 120 = .ok (.invokevirtual 156, 3) := dk_182 0 156 (dk_at dksX3_winRead_5 3 rfl rfl)
theorem dX3_winRead_123 : decode cX3_winRead 123 = .ok (.ifCond .eq 33, 3) := dk_153 0 33 (dk_at dksX3_winRead_5 6 rfl rfl)
theorem dX3_winRead_126 : decode cX3_winRead 126 = .ok (.aload_n 0, 1) := dk_42 (dk_at dksX3_winRead_5 9 rfl rfl)
theorem dX3_winRead_127 : decode cX3_winRead 127 = .ok (.iconst 1, 1) := dk_4 (dk_at dksX3_winRead_5 10 rfl rfl)
theorem dX3_winRead_128 : decode cX3_winRead 128 = .ok (.aload_n 0, 1) := dk_42 (dk_at dksX3_winRead_5 11 rfl rfl)
theorem dX3_winRead_129 : decode cX3_winRead 129 = .ok (.getfield 49, 3) := dk_180 0 49 (dk_at dksX3_winRead_5 12 rfl rfl)
theorem dX3_winRead_132 : decode cX3_winRead 132 = .ok (.iconst 1, 1) := dk_4 (dk_at dksX3_winRead_5 15 rfl rfl)
theorem dX3_winRead_133 : decode cX3_winRead 133 = .ok (.iaload, 1) := dk_46 (dk_at dksX3_winRead_5 16 rfl rfl)
theorem dX3_winRead_134 : decode cX3_winRead 134 = .ok (.invokestatic 192, 3) := dk_184 0 192 (dk_at dksX3_winRead_5 17 rfl rfl)
theorem dX3_winRead_137 : decode cX3_winRead 137 = .ok (.bipush 99, 2) := dk_16 99 (dk_at dksX3_winRead_5 20 rfl rfl)
theorem dX3_winRead_139 : decode cX3_winRead 139 = .ok (.iconst 2, 1) := dk_5 (dk_at dksX3_winRead_5 22 rfl rfl)
theorem dX3_winRead_140 : decode cX3_winRead 140 = .ok (.aload_n 0, 1) := dk_42 (dk_at dksX3_winRead_5 23 rfl rfl)
theorem dX3_winRead_141 : decode cX3_winRead 141 = .ok (.getfield 49, 3) := dk_180 0 49 (dk_at dksX3_winRead_6 0 rfl rfl)
theorem dX3_winRead_144 : decode cX3_winRead 144 = .ok (.iconst 1, 1) := dk_4 (dk_at dksX3_winRead_6 3 rfl rfl)
theorem dX3_winRead_145 : decode cX3_winRead 145 = .ok (.iaload, 1) := dk_46 (dk_at dksX3_winRead_6 4 rfl rfl)
theorem dX3_winRead_146 : decode cX3_winRead 146 = .ok (.imul, 1) := dk_104 (dk_at dksX3_winRead_6 5 rfl rfl)
theorem dX3_winRead_147 : decode cX3_winRead 147 = .ok (.invokestatic 198, 3) := dk_184 0 198 (dk_at dksX3_winRead_6 6 rfl rfl)
theorem dX3_winRead_150 : decode cX3_winRead 150 = .ok (.invokevirtual 170, 3) := dk_182 0 170 (dk_at dksX3_winRead_6 9 rfl rfl)
theorem dX3_winRead_153 : decode cX3_winRead 153 = .ok (.ifCond .ne 5, 3) := dk_154 0 5 (dk_at dksX3_winRead_6 12 rfl rfl)
theorem dX3_winRead_156 : decode cX3_winRead 156 = .ok (.iconst 0, 1) := dk_3 (dk_at dksX3_winRead_6 15 rfl rfl)
theorem dX3_winRead_157 : decode cX3_winRead 157 = .ok (.ireturn, 1) := dk_172 (dk_at dksX3_winRead_6 16 rfl rfl)
theorem dX3_winRead_158 : decode cX3_winRead 158 = .ok (.aload_n 0, 1) := dk_42 (dk_at dksX3_winRead_6 17 rfl rfl)
theorem dX3_winRead_159 : decode cX3_winRead 159 = .ok (.getfield 52, 3) := dk_180 0 52 (dk_at dksX3_winRead_6 18 rfl rfl)
theorem dX3_winRead_162 : decode cX3_winRead 162 = .ok (.iconst 1, 1) := dk_4 (dk_at dksX3_winRead_6 21 rfl rfl)
theorem dX3_winRead_163 : decode cX3_winRead 163 = .ok (.aload_n 0, 1) := dk_42 (dk_at dksX3_winRead_6 22 rfl rfl)
theorem dX3_winRead_164 : decode cX3_winRead 164 = .ok (.getfield 153, 3) := dk_180 0 153 (dk_at dksX3_winRead_7 0 rfl rfl)
theorem dX3_winRead_167 : decode cX3_winRead 167 = .ok (.iastore, 1) := dk_79 (dk_at dksX3_winRead_7 3 rfl rfl)
theorem dX3_winRead_168 : decode cX3_winRead 168 = .ok (.aload_n 0, 1) := dk_42 (dk_at dksX3_winRead_7 4 rfl rfl)
theorem dX3_winRead_169 : decode cX3_winRead 169 = .ok (.aload_n 0, 1) := dk_42 (dk_at dksX3_winRead_7 5 rfl rfl)
theorem dX3_winRead_170 : decode cX3_winRead 170 = .ok (.bipush 59, 2) := dk_16 59 (dk_at dksX3_winRead_7 6 rfl rfl)
theorem dX3_winRead_172 : decode cX3_winRead 172 = .ok (.invokevirtual 167, 3) := dk_182 0 167 (dk_at dksX3_winRead_7 8 rfl rfl)
theorem dX3_winRead_175 : decode cX3_winRead 175 = .ok (.invokevirtual 156, 3) := dk_182 0 156 (dk_at dksX3_winRead_7 11 rfl rfl)
theorem dX3_winRead_178 : decode cX3_winRead 178 = .ok (.ireturn, 1) := dk_172 (dk_at dksX3_winRead_7 14 rfl rfl)
def dkwX3_sheet_10 : List UInt8 := [42, 3, 181, 0, 234, 42, 182, 0, 237, 172]
abbrev dktX3_sheet_10 : List UInt8 := dkwX3_sheet_10 ++ []
def dkwX3_sheet_9 : List UInt8 := [180, 0, 36, 4, 50, 27, 46, 79, 132, 1, 1, 167, 255, 215, 42, 3, 181, 0, 114, 42, 3, 181, 0, 231]
abbrev dktX3_sheet_9 : List UInt8 := dkwX3_sheet_9 ++ dktX3_sheet_10
def dkwX3_sheet_8 : List UInt8 := [42, 180, 0, 33, 3, 50, 27, 42, 180, 0, 33, 4, 50, 27, 46, 79, 42, 180, 0, 36, 3, 50, 27, 42]
abbrev dktX3_sheet_8 : List UInt8 := dkwX3_sheet_8 ++ dktX3_sheet_9
def dkwX3_sheet_7 : List UInt8 := [27, 42, 180, 0, 30, 4, 50, 27, 46, 79, 132, 1, 1, 167, 255, 151, 3, 60, 27, 16, 20, 162, 0, 41]
abbrev dktX3_sheet_7 : List UInt8 := dkwX3_sheet_7 ++ dktX3_sheet_8
def dkwX3_sheet_6 : List UInt8 := [46, 79, 42, 180, 0, 27, 3, 50, 27, 42, 180, 0, 27, 4, 50, 27, 46, 79, 42, 180, 0, 30, 3, 50]
abbrev dktX3_sheet_6 : List UInt8 := dkwX3_sheet_6 ++ dktX3_sheet_7
def dkwX3_sheet_5 : List UInt8 := [27, 42, 180, 0, 21, 4, 50, 27, 46, 79, 42, 180, 0, 24, 3, 50, 27, 42, 180, 0, 24, 4, 50, 27]
abbrev dktX3_sheet_5 : List UInt8 := dkwX3_sheet_5 ++ dktX3_sheet_6
def dkwX3_sheet_4 : List UInt8 := [46, 79, 42, 180, 0, 18, 3, 50, 27, 42, 180, 0, 18, 4, 50, 27, 46, 79, 42, 180, 0, 21, 3, 50]
abbrev dktX3_sheet_4 : List UInt8 := dkwX3_sheet_4 ++ dktX3_sheet_5
def dkwX3_sheet_3 : List UInt8 := [46, 79, 3, 60, 27, 16, 15, 162, 0, 105, 42, 180, 0, 15, 3, 50, 27, 42, 180, 0, 15, 4, 50, 27]
abbrev dktX3_sheet_3 : List UInt8 := dkwX3_sheet_3 ++ dktX3_sheet_4
def dkwX3_sheet_2 : List UInt8 := [46, 79, 42, 180, 0, 49, 3, 42, 180, 0, 49, 4, 46, 79, 42, 180, 0, 52, 3, 42, 180, 0, 52, 4]
abbrev dktX3_sheet_2 : List UInt8 := dkwX3_sheet_2 ++ dktX3_sheet_3
def dkwX3_sheet_1 : List UInt8 := [46, 79, 42, 180, 0, 43, 3, 42, 180, 0, 43, 4, 46, 79, 42, 180, 0, 46, 3, 42, 180, 0, 46, 4]
abbrev dktX3_sheet_1 : List UInt8 := dkwX3_sheet_1 ++ dktX3_sheet_2
def dkwX3_sheet_0 : List UInt8 := [42, 182, 0, 228, 42, 180, 0, 147, 2, 159, 0, 5, 2, 172, 42, 180, 0, 39, 3, 42, 180, 0, 39, 4]
abbrev dktX3_sheet_0 : List UInt8 := dkwX3_sheet_0 ++ dktX3_sheet_1
theorem dksX3_sheet_0 : cX3_sheet.data.toList.drop 0 = dktX3_sheet_0 := by decide +kernel
theorem dksX3_sheet_1 : cX3_sheet.data.toList.drop 24 = dktX3_sheet_1 := dk_seg dksX3_sheet_0 24 rfl rfl
theorem dksX3_sheet_2 : cX3_sheet.data.toList.drop 48 = dktX3_sheet_2 := dk_seg dksX3_sheet_1 24 rfl rfl
theorem dksX3_sheet_3 : cX3_sheet.data.toList.drop 72 = dktX3_sheet_3 := dk_seg dksX3_sheet_2 24 rfl rfl
theorem dksX3_sheet_4 : cX3_sheet.data.toList.drop 96 = dktX3_sheet_4 := dk_seg dksX3_sheet_3 24 rfl rfl
theorem dksX3_sheet_5 : cX3_sheet.data.toList.drop 120 = dktX3_sheet_5 := dk_seg dksX3_sheet_4 24 rfl rfl
theorem dksX3_sheet_6 : cX3_sheet.data.toList.drop 144 = dktX3_sheet_6 := dk_seg dksX3_sheet_5 24 rfl rfl
theorem dksX3_sheet_7 : cX3_sheet.data.toList.drop 168 = dktX3_sheet_7 := dk_seg dksX3_sheet_6 24 rfl rfl
theorem dksX3_sheet_8 : cX3_sheet.data.toList.drop 192 = dktX3_sheet_8 := dk_seg dksX3_sheet_7 24 rfl rfl
theorem dksX3_sheet_9 : cX3_sheet.data.toList.drop 216 = dktX3_sheet_9 := dk_seg dksX3_sheet_8 24 rfl rfl
theorem dksX3_sheet_10 : cX3_sheet.data.toList.drop 240 = dktX3_sheet_10 := dk_seg dksX3_sheet_9 24 rfl rfl
theorem dX3_sheet_0 : decode cX3_sheet 0 = .ok (.aload_n 0, 1) := dk_42 (dk_at dksX3_sheet_0 0 rfl rfl)
theorem dX3_sheet_1 : decode cX3_sheet 1 = .ok (.invokevirtual 228, 3) := dk_182 0 228 (dk_at dksX3_sheet_0 1 rfl rfl)
theorem dX3_sheet_4 : decode cX3_sheet 4 = .ok (.aload_n 0, 1) := dk_42 (dk_at dksX3_sheet_0 4 rfl rfl)
theorem dX3_sheet_5 : decode cX3_sheet 5 = .ok (.getfield 147, 3) := dk_180 0 147 (dk_at dksX3_sheet_0 5 rfl rfl)
theorem dX3_sheet_8 : decode cX3_sheet 8 = .ok (.iconst (-1), 1) := dk_2 (dk_at dksX3_sheet_0 8 rfl rfl)
theorem dX3_sheet_9 : decode cX3_sheet 9 = .ok (.if_icmp .eq 5, 3) := dk_159 0 5 (dk_at dksX3_sheet_0 9 rfl rfl)
theorem dX3_sheet_12 : decode cX3_sheet 12 = .ok (.iconst (-1), 1) := dk_2 (dk_at dksX3_sheet_0 12 rfl rfl)
theorem dX3_sheet_13 : decode cX3_sheet 13 = .ok (.ireturn, 1) := dk_172 (dk_at dksX3_sheet_0 13 rfl rfl)
theorem dX3_sheet_14 : decode cX3_sheet 14 = .ok (.aload_n 0, 1) := dk_42 (dk_at dksX3_sheet_0 14 rfl rfl)
theorem dX3_sheet_15 : decode cX3_sheet 15 = .ok (.getfield 39, 3) := dk_180 0 39 (dk_at dksX3_sheet_0 15 rfl rfl)
theorem dX3_sheet_18 : decode cX3_sheet 18 = .ok (.iconst 0, 1) := dk_3 (dk_at dksX3_sheet_0 18 rfl rfl)
theorem dX3_sheet_19 : decode cX3_sheet 19 = .ok (.aload_n 0, 1) := dk_42 (dk_at dksX3_sheet_0 19 rfl rfl)
theorem dX3_sheet_20 : decode cX3_sheet 20 = .ok (.getfield 39, 3) := dk_180 0 39 (dk_at dksX3_sheet_0 20 rfl rfl)
theorem dX3_sheet_23 : decode cX3_sheet 23 = .ok (.iconst 1, 1) := dk_4 (dk_at dksX3_sheet_0 23 rfl rfl)
theorem dX3_sheet_24 : decode cX3_sheet 24 = .ok (.iaload, 1) := dk_46 (dk_at dksX3_sheet_1 0 rfl rfl)
theorem dX3_sheet_25 : decode cX3_sheet 25 = .ok (.iastore, 1) := dk_79 (dk_at dksX3_sheet_1 1 rfl rfl)
theorem dX3_sheet_26 : decode cX3_sheet 26 = .ok (.aload_n 0, 1) := dk_42 (dk_at dksX3_sheet_1 2 rfl rfl)
theorem dX3_sheet_27 : decode cX3_sheet 27 = .ok (.getfield 43, 3) := dk_180 0 43 (dk_at dksX3_sheet_1 3 rfl rfl)
theorem dX3_sheet_30 : decode cX3_sheet 30 = .ok (.iconst 0, 1) := dk_3 (dk_at dksX3_sheet_1 6 rfl rfl)
theorem dX3_sheet_31 : decode cX3_sheet 31 = .ok (.aload_n 0, 1) := dk_42 (dk_at dksX3_sheet_1 7 rfl rfl)
theorem dX3_sheet_32 : decode cX3_sheet 32 = .ok (.getfield 43, 3) := dk_180 0 43 (dk_at dksX3_sheet_1 8 rfl rfl)
theorem dX3_sheet_35 : decode cX3_sheet 35 = .ok (.iconst 1, 1) := dk_4 (dk_at dksX3_sheet_1 11 rfl rfl)
theorem dX3_sheet_36 : decode cX3_sheet 36 = .ok (.iaload, 1) := dk_46 (dk_at dksX3_sheet_1 12 rfl rfl)
theorem dX3_sheet_37 : decode cX3_sheet 37 = .ok (.iastore, 1) := dk_79 (dk_at dksX3_sheet_1 13 rfl rfl)
theorem dX3_sheet_38 : decode cX3_sheet 38 = .ok (.aload_n 0, 1) := dk_42 (dk_at dksX3_sheet_1 14 rfl rfl)
theorem dX3_sheet_39 : decode cX3_sheet 39 = .ok (.getfield 46, 3) := dk_180 0 46 (dk_at dksX3_sheet_1 15 rfl rfl)
theorem dX3_sheet_42 : decode cX3_sheet 42 = .ok (.iconst 0, 1) := dk_3 (dk_at dksX3_sheet_1 18 rfl rfl)
theorem dX3_sheet_43 : decode cX3_sheet 43 = .ok (.aload_n 0, 1) := dk_42 (dk_at dksX3_sheet_1 19 rfl rfl)
theorem dX3_sheet_44 : decode cX3_sheet 44 = .ok (.getfield 46, 3) := dk_180 0 46 (dk_at dksX3_sheet_1 20 rfl rfl)
theorem dX3_sheet_47 : decode cX3_sheet 47 = .ok (.iconst 1, 1) := dk_4 (dk_at dksX3_sheet_1 23 rfl rfl)
theorem dX3_sheet_48 : decode cX3_sheet 48 = .ok (.iaload, 1) := dk_46 (dk_at dksX3_sheet_2 0 rfl rfl)
theorem dX3_sheet_49 : decode cX3_sheet 49 = .ok (.iastore, 1) := dk_79 (dk_at dksX3_sheet_2 1 rfl rfl)
theorem dX3_sheet_50 : decode cX3_sheet 50 = .ok (.aload_n 0, 1) := dk_42 (dk_at dksX3_sheet_2 2 rfl rfl)
theorem dX3_sheet_51 : decode cX3_sheet 51 = .ok (.getfield 49, 3) := dk_180 0 49 (dk_at dksX3_sheet_2 3 rfl rfl)
theorem dX3_sheet_54 : decode cX3_sheet 54 = .ok (.iconst 0, 1) := dk_3 (dk_at dksX3_sheet_2 6 rfl rfl)
theorem dX3_sheet_55 : decode cX3_sheet 55 = .ok (.aload_n 0, 1) := dk_42 (dk_at dksX3_sheet_2 7 rfl rfl)
theorem dX3_sheet_56 : decode cX3_sheet 56 = .ok (.getfield 49, 3) := dk_180 0 49 (dk_at dksX3_sheet_2 8 rfl rfl)
theorem dX3_sheet_59 : decode cX3_sheet 59 = .ok (.iconst 1, 1) := dk_4 (dk_at dksX3_sheet_2 11 rfl rfl)
theorem dX3_sheet_60 : decode cX3_sheet 60 = .ok (.iaload, 1) := dk_46 (dk_at dksX3_sheet_2 12 rfl rfl)
theorem dX3_sheet_61 : decode cX3_sheet 61 = .ok (.iastore, 1) := dk_79 (dk_at dksX3_sheet_2 13 rfl rfl)
theorem dX3_sheet_62 : decode cX3_sheet 62 = .ok (.aload_n 0, 1) := dk_42 (dk_at dksX3_sheet_2 14 rfl rfl)
theorem dX3_sheet_63 : decode cX3_sheet 63 = .ok (.getfield 52, 3) := dk_180 0 52 (dk_at dksX3_sheet_2 15 rfl rfl)
theorem dX3_sheet_66 : decode cX3_sheet 66 = .ok (.iconst 0, 1) := dk_3 (dk_at dksX3_sheet_2 18 rfl rfl)
theorem dX3_sheet_67 : decode cX3_sheet 67 = .ok (.aload_n 0, 1) := dk_42 (dk_at dksX3_sheet_2 19 rfl rfl)
theorem dX3_sheet_68 : decode cX3_sheet 68 = .ok (.getfield 52, 3) := dk_180 0 52 (dk_at dksX3_sheet_2 20 rfl rfl)
theorem dX3_sheet_71 : decode cX3_sheet 71 = .ok (.iconst 1, 1) := dk_4 (dk_at dksX3_sheet_2 23 rfl rfl)
theorem dX3_sheet_72 : decode cX3_sheet 72 = .ok (.iaload, 1) := dk_46 (dk_at dksX3_sheet_3 0 rfl rfl)
theorem dX3_sheet_73 : decode cX3_sheet 73 = .ok (.iastore, 1) := dk_79 (dk_at dksX3_sheet_3 1 rfl rfl)
theorem dX3_sheet_74 : decode cX3_sheet 74 = .ok (.iconst 0, 1) := dk_3 (dk_at dksX3_sheet_3 2 rfl rfl)
theorem dX3_sheet_75 : decode cX3_sheet 75 = .ok (.istore_n 1, 1) := dk_60 (dk_at dksX3_sheet_3 3 rfl rfl)
theorem dX3_sheet_76 : decode cX3_sheet 76 = .ok (.iload_n 1, 1) := dk_27 (dk_at dksX3_sheet_3 4 rfl rfl)
theorem dX3_sheet_77 : decode cX3_sheet 77 = .ok (.bipush 15, 2) := dk_16 15 (dk_at dksX3_sheet_3 5 rfl rfl)
theorem dX3_sheet_79 : decode cX3_sheet 79 = .ok (.if_icmp .ge 105, 3) := dk_162 0 105 (dk_at dksX3_sheet_3 7 rfl rfl)
theorem dX3_sheet_82 : decode cX3_sheet 82 = .ok (.aload_n 0, 1) := dk_42 (dk_at dksX3_sheet_3 10 rfl rfl)
theorem dX3_sheet_83 : decode cX3_sheet 83 = .ok (.getfield 15, 3) := dk_180 0 15 (dk_at dksX3_sheet_3 11 rfl rfl)
theorem dX3_sheet_86 : decode cX3_sheet 86 = .ok (.iconst 0, 1) := dk_3 (dk_at dksX3_sheet_3 14 rfl rfl)
theorem dX3_sheet_87 : decode cX3_sheet 87 = .ok (.aaload, 1) := dk_50 (dk_at dksX3_sheet_3 15 rfl rfl)
theorem dX3_sheet_88 : decode cX3_sheet 88 = .ok (.iload_n 1, 1) := dk_27 (dk_at dksX3_sheet_3 16 rfl rfl)
theorem dX3_sheet_89 : decode cX3_sheet 89 = .ok (.aload_n 0, 1) := dk_42 (dk_at dksX3_sheet_3 17 rfl rfl)
theorem dX3_sheet_90 : decode cX3_sheet 90 = .ok (.getfield 15, 3) := dk_180 0 15 (dk_at dksX3_sheet_3 18 rfl rfl)
theorem dX3_sheet_93 : decode cX3_sheet 93 = .ok (.iconst 1, 1) := dk_4 (dk_at dksX3_sheet_3 21 rfl rfl)
theorem dX3_sheet_94 : decode cX3_sheet 94 = .ok (.aaload, 1) := dk_50 (dk_at dksX3_sheet_3 22 rfl rfl)
theorem dX3_sheet_95 : decode cX3_sheet 95 = .ok (.iload_n 1, 1) := dk_27 (dk_at dksX3_sheet_3 23 rfl rfl)
theorem dX3_sheet_96 : decode cX3_sheet 96 = .ok (.iaload, 1) := dk_46 (dk_at dksX3_sheet_4 0 rfl rfl)
theorem dX3_sheet_97 : decode cX3_sheet 97 = .ok (.iastore, 1) := dk_79 (dk_at dksX3_sheet_4 1 rfl rfl)
theorem dX3_sheet_98 : decode cX3_sheet 98 = .ok (.aload_n 0, 1) := dk_42 (dk_at dksX3_sheet_4 2 rfl rfl)
theorem dX3_sheet_99 : decode cX3_sheet 99 = .ok (.getfield 18, 3) := dk_180 0 18 (dk_at dksX3_sheet_4 3 rfl rfl)
theorem dX3_sheet_102 : decode cX3_sheet 102 = .ok (.iconst 0, 1) := dk_3 (dk_at dksX3_sheet_4 6 rfl rfl)
theorem dX3_sheet_103 : decode cX3_sheet 103 = .ok (.aaload, 1) := dk_50 (dk_at dksX3_sheet_4 7 rfl rfl)
theorem dX3_sheet_104 : decode cX3_sheet 104 = .ok (.iload_n 1, 1) := dk_27 (dk_at dksX3_sheet_4 8 rfl rfl)
theorem dX3_sheet_105 : decode cX3_sheet 105 = .ok (.aload_n 0, 1) := dk_42 (dk_at dksX3_sheet_4 9 rfl rfl)
theorem dX3_sheet_106 : decode cX3_sheet 106 = .ok (.getfield 18, 3) := dk_180 0 18 (dk_at dksX3_sheet_4 10 rfl rfl)
theorem dX3_sheet_109 : decode cX3_sheet 109 = .ok (.iconst 1, 1) := dk_4 (dk_at dksX3_sheet_4 13 rfl rfl)
theorem dX3_sheet_110 : decode cX3_sheet 110 = .ok (.aaload, 1) := dk_50 (dk_at dksX3_sheet_4 14 rfl rfl)
theorem dX3_sheet_111 : decode cX3_sheet 111 = .ok (.iload_n 1, 1) := dk_27 (dk_at dksX3_sheet_4 15 rfl rfl)
theorem dX3_sheet_112 : decode cX3_sheet 112 = .ok (.iaload, 1) := dk_46 (dk_at dksX3_sheet_4 16 rfl rfl)
theorem dX3_sheet_113 : decode cX3_sheet 113 = .ok (.iastore, 1) := dk_79 (dk_at dksX3_sheet_4 17 rfl rfl)
theorem dX3_sheet_114 : decode cX3_sheet 114 = .ok (.aload_n 0, 1) := dk_42 (dk_at dksX3_sheet_4 18 rfl rfl)
theorem dX3_sheet_115 : decode cX3_sheet 115 = .ok (.getfield 21, 3) := dk_180 0 21 (dk_at dksX3_sheet_4 19 rfl rfl)
theorem dX3_sheet_118 : decode cX3_sheet 118 = .ok (.iconst 0, 1) := dk_3 (dk_at dksX3_sheet_4 22 rfl rfl)
theorem dX3_sheet_119 : decode cX3_sheet 119 = .ok (.aaload, 1) := dk_50 (dk_at dksX3_sheet_4 23 rfl rfl)
theorem dX3_sheet_120 : decode cX3_sheet 120 = .ok (.iload_n 1, 1) := dk_27 (dk_at dksX3_sheet_5 0 rfl rfl)
theorem dX3_sheet_121 : decode cX3_sheet 121 = .ok (.aload_n 0, 1) := dk_42 (dk_at dksX3_sheet_5 1 rfl rfl)
theorem dX3_sheet_122 : decode cX3_sheet 122 = .ok (.getfield 21, 3) := dk_180 0 21 (dk_at dksX3_sheet_5 2 rfl rfl)
theorem dX3_sheet_125 : decode cX3_sheet 125 = .ok (.iconst 1, 1) := dk_4 (dk_at dksX3_sheet_5 5 rfl rfl)
theorem dX3_sheet_126 : decode cX3_sheet 126 = .ok (.aaload, 1) := dk_50 (dk_at dksX3_sheet_5 6 rfl rfl)
theorem dX3_sheet_127 : decode cX3_sheet 127 = .ok (.iload_n 1, 1) := dk_27 (dk_at dksX3_sheet_5 7 rfl rfl)
theorem dX3_sheet_128 : decode cX3_sheet 128 = .ok (.iaload, 1) := dk_46 (dk_at dksX3_sheet_5 8 rfl rfl)
theorem dX3_sheet_129 : decode cX3_sheet 129 = .ok (.iastore, 1) := dk_79 (dk_at dksX3_sheet_5 9 rfl rfl)
theorem dX3_sheet_130 : decode cX3_sheet 130 = .ok (.aload_n 0, 1) := dk_42 (dk_at dksX3_sheet_5 10 rfl rfl)
theorem dX3_sheet_131 : decode cX3_sheet 131 = .ok (.getfield 24, 3) := dk_180 0 24 (dk_at dksX3_sheet_5 11 rfl rfl)
theorem dX3_sheet_134 : decode cX3_sheet 134 = .ok (.iconst 0, 1) := dk_3 (dk_at dksX3_sheet_5 14 rfl rfl)
theorem dX3_sheet_135 : decode cX3_sheet 135 = .ok (.aaload, 1) := dk_50 (dk_at dksX3_sheet_5 15 rfl rfl)
theorem dX3_sheet_136 : decode cX3_sheet 136 = .ok (.iload_n 1, 1) := dk_27 (dk_at dksX3_sheet_5 16 rfl rfl)
theorem dX3_sheet_137 : decode cX3_sheet 137 = .ok (.aload_n 0, 1) := dk_42 (dk_at dksX3_sheet_5 17 rfl rfl)
theorem dX3_sheet_138 : decode cX3_sheet 138 = .ok (.getfield 24, 3) := dk_180 0 24 (dk_at dksX3_sheet_5 18 rfl rfl)
theorem dX3_sheet_141 : decode cX3_sheet 141 = .ok (.iconst 1, 1) := dk_4 (dk_at dksX3_sheet_5 21 rfl rfl)
theorem dX3_sheet_142 : decode cX3_sheet 142 = .ok (.aaload, 1) := dk_50 (dk_at dksX3_sheet_5 22 rfl rfl)
theorem dX3_sheet_143 : decode cX3_sheet 143 = .ok (.iload_n 1, 1) := dk_27 (dk_at dksX3_sheet_5 23 rfl rfl)
theorem dX3_sheet_144 : decode cX3_sheet 144 = .ok (.iaload, 1) := dk_46 (dk_at dksX3_sheet_6 0 rfl rfl)
theorem dX3_sheet_145 : decode cX3_sheet 145 = .ok (.iastore, 1) := dk_79 (dk_at dksX3_sheet_6 1 rfl rfl)
theorem dX3_sheet_146 : decode cX3_sheet 146 = .ok (.aload_n 0, 1) := dk_42 (dk_at dksX3_sheet_6 2 rfl rfl)
theorem dX3_sheet_147 : decode cX3_sheet 147 = .ok (.getfield 27, 3) := dk_180 0 27 (dk_at dksX3_sheet_6 3 rfl rfl)
theorem dX3_sheet_150 : decode cX3_sheet 150 = .ok (.iconst 0, 1) := dk_3 (dk_at dksX3_sheet_6 6 rfl rfl)
theorem dX3_sheet_151 : decode cX3_sheet 151 = .ok (.aaload, 1) := dk_50 (dk_at dksX3_sheet_6 7 rfl rfl)
theorem dX3_sheet_152 : decode cX3_sheet 152 = .ok (.iload_n 1, 1) := dk_27 (dk_at dksX3_sheet_6 8 rfl rfl)
theorem dX3_sheet_153 : decode cX3_sheet 153 = .ok (.aload_n 0, 1) := dk_42 (dk_at dksX3_sheet_6 9 rfl rfl)
theorem dX3_sheet_154 : decode cX3_sheet 154 = .ok (.getfield 27, 3) := dk_180 0 27 (dk_at dksX3_sheet_6 10 rfl rfl)
theorem dX3_sheet_157 : decode cX3_sheet 157 = .ok (.iconst 1, 1) := dk_4 (dk_at dksX3_sheet_6 13 rfl rfl)
theorem dX3_sheet_158 : decode cX3_sheet 158 = .ok (.aaload, 1) := dk_50 (dk_at dksX3_sheet_6 14 rfl rfl)
theorem dX3_sheet_159 : decode cX3_sheet 159 = .ok (.iload_n 1, 1) := dk_27 (dk_at dksX3_sheet_6 15 rfl rfl)
theorem dX3_sheet_160 : decode cX3_sheet 160 = .ok (.iaload, 1) := dk_46 (dk_at dksX3_sheet_6 16 rfl rfl)
theorem dX3_sheet_161 : decode cX3_sheet 161 = .ok (.iastore, 1) := dk_79 (dk_at dksX3_sheet_6 17 rfl rfl)
theorem dX3_sheet_162 : decode cX3_sheet 162 = .ok (.aload_n 0, 1) := dk_42 (dk_at dksX3_sheet_6 18 rfl rfl)
theorem dX3_sheet_163 : decode cX3_sheet 163 = .ok (.getfield 30, 3) := dk_180 0 30 (dk_at dksX3_sheet_6 19 rfl rfl)
theorem dX3_sheet_166 : decode cX3_sheet 166 = .ok (.iconst 0, 1) := dk_3 (dk_at dksX3_sheet_6 22 rfl rfl)
theorem dX3_sheet_167 : decode cX3_sheet 167 = .ok (.aaload, 1) := dk_50 (dk_at dksX3_sheet_6 23 rfl rfl)
theorem dX3_sheet_168 : decode cX3_sheet 168 = .ok (.iload_n 1, 1) := dk_27 (dk_at dksX3_sheet_7 0 rfl rfl)
theorem dX3_sheet_169 : decode cX3_sheet 169 = .ok (.aload_n 0, 1) := dk_42 (dk_at dksX3_sheet_7 1 rfl rfl)
theorem dX3_sheet_170 : decode cX3_sheet 170 = .ok (.getfield 30, 3) := dk_180 0 30 (dk_at dksX3_sheet_7 2 rfl rfl)
theorem dX3_sheet_173 : decode cX3_sheet 173 = .ok (.iconst 1, 1) := dk_4 (dk_at dksX3_sheet_7 5 rfl rfl)
theorem dX3_sheet_174 : decode cX3_sheet 174 = .ok (.aaload, 1) := dk_50 (dk_at dksX3_sheet_7 6 rfl rfl)
theorem dX3_sheet_175 : decode cX3_sheet 175 = .ok (.iload_n 1, 1) := dk_27 (dk_at dksX3_sheet_7 7 rfl rfl)
theorem dX3_sheet_176 : decode cX3_sheet 176 = .ok (.iaload, 1) := dk_46 (dk_at dksX3_sheet_7 8 rfl rfl)
theorem dX3_sheet_177 : decode cX3_sheet 177 = .ok (.iastore, 1) := dk_79 (dk_at dksX3_sheet_7 9 rfl rfl)
theorem dX3_sheet_178 : decode cX3_sheet 178 = .ok (.iinc 1 1, 3) := dk_132 1 1 (dk_at dksX3_sheet_7 10 rfl rfl)
theorem dX3_sheet_181 : decode cX3_sheet 181 = .ok (.goto (-105), 3) := dk_167 255 151 (dk_at dksX3_sheet_7 13 rfl rfl)
theorem dX3_sheet_184 : decode cX3_sheet 184 = .ok (.iconst 0, 1) := dk_3 (dk_at dksX3_sheet_7 16 rfl rfl)
theorem dX3_sheet_185 : decode cX3_sheet 185 = .ok (.istore_n 1, 1) := dk_60 (dk_at dksX3_sheet_7 17 rfl rfl)
theorem dX3_sheet_186 : decode cX3_sheet 186 = .ok (.iload_n 1, 1) := dk_27 (dk_at dksX3_sheet_7 18 rfl rfl)
theorem dX3_sheet_187 : decode cX3_sheet 187 = .ok (.bipush 20, 2) := dk_16 20 (dk_at dksX3_sheet_7 19 rfl rfl)
theorem dX3_sheet_189 : decode cX3_sheet 189 = .ok (.if_icmp .ge 41, 3) := dk_162 0 41 (dk_at dksX3_sheet_7 21 rfl rfl)
theorem dX3_sheet_192 : decode cX3_sheet 192 = .ok (.aload_n 0, 1) := dk_42 (dk_at dksX3_sheet_8 0 rfl rfl)
theorem dX3_sheet_193 : decode cX3_sheet 193 = .ok (.getfield 33, 3) := dk_180 0 33 (dk_at dksX3_sheet_8 1 rfl rfl)
theorem dX3_sheet_196 : decode cX3_sheet 196 = .ok (.iconst 0, 1) := dk_3 (dk_at dksX3_sheet_8 4 rfl rfl)
theorem dX3_sheet_197 : decode cX3_sheet 197 = .ok (.aaload, 1) := dk_50 (dk_at dksX3_sheet_8 5 rfl rfl)
theorem dX3_sheet_198 : decode cX3_sheet 198 = .ok (.iload_n 1, 1) := dk_27 (dk_at dksX3_sheet_8 6 rfl rfl)
theorem dX3_sheet_199 : decode cX3_sheet 199 = .ok (.aload_n 0, 1) := dk_42 (dk_at dksX3_sheet_8 7 rfl rfl)
theorem dX3_sheet_200 : decode cX3_sheet 200 = .ok (.getfield 33, 3) := dk_180 0 33 (dk_at dksX3_sheet_8 8 rfl rfl)
theorem dX3_sheet_203 : decode cX3_sheet 203 = .ok (.iconst 1, 1) := dk_4 (dk_at dksX3_sheet_8 11 rfl rfl)
theorem dX3_sheet_204 : decode cX3_sheet 204 = .ok (.aaload, 1) := dk_50 (dk_at dksX3_sheet_8 12 rfl rfl)
theorem dX3_sheet_205 : decode cX3_sheet 205 = .ok (.iload_n 1, 1) := dk_27 (dk_at dksX3_sheet_8 13 rfl rfl)
theorem dX3_sheet_206 : decode cX3_sheet 206 = .ok (.iaload, 1) := dk_46 (dk_at dksX3_sheet_8 14 rfl rfl)
theorem dX3_sheet_207 : decode cX3_sheet 207 = .ok (.iastore, 1) := dk_79 (dk_at dksX3_sheet_8 15 rfl rfl)
theorem dX3_sheet_208 : decode cX3_sheet 208 = .ok (.aload_n 0, 1) := dk_42 (dk_at dksX3_sheet_8 16 rfl rfl)
theorem dX3_sheet_209 : decode cX3_sheet 209 = .ok (.getfield 36, 3) := dk_180 0 36 (dk_at dksX3_sheet_8 17 rfl rfl)
theorem dX3_sheet_212 : decode cX3_sheet 212 = .ok (.iconst 0, 1) := dk_3 (dk_at dksX3_sheet_8 20 rfl rfl)
theorem dX3_sheet_213 : decode cX3_sheet 213 = .ok (.aaload, 1) := dk_50 (dk_at dksX3_sheet_8 21 rfl rfl)
theorem dX3_sheet_214 : decode cX3_sheet 214 = .ok (.iload_n 1, 1) := dk_27 (dk_at dksX3_sheet_8 22 rfl rfl)
theorem dX3_sheet_215 : decode cX3_sheet 215 = .ok (.aload_n 0, 1) := dk_42 (dk_at dksX3_sheet_8 23 rfl rfl)
theorem dX3_sheet_216 : decode cX3_sheet 216 = .ok (.getfield 36, 3) := dk_180 0 36 (dk_at dksX3_sheet_9 0 rfl rfl)
theorem dX3_sheet_219 : decode cX3_sheet 219 = .ok (.iconst 1, 1) := dk_4 (dk_at dksX3_sheet_9 3 rfl rfl)
theorem dX3_sheet_220 : decode cX3_sheet 220 = .ok (.aaload, 1) := dk_50 (dk_at dksX3_sheet_9 4 rfl rfl)
theorem dX3_sheet_221 : decode cX3_sheet 221 = .ok (.iload_n 1, 1) := dk_27 (dk_at dksX3_sheet_9 5 rfl rfl)
theorem dX3_sheet_222 : decode cX3_sheet 222 = .ok (.iaload, 1) := dk_46 (dk_at dksX3_sheet_9 6 rfl rfl)
theorem dX3_sheet_223 : decode cX3_sheet 223 = .ok (.iastore, 1) := dk_79 (dk_at dksX3_sheet_9 7 rfl rfl)
theorem dX3_sheet_224 : decode cX3_sheet 224 = .ok (.iinc 1 1, 3) := dk_132 1 1 (dk_at dksX3_sheet_9 8 rfl rfl)
theorem dX3_sheet_227 : decode cX3_sheet 227 = .ok (.goto (-41), 3) := dk_167 255 215 (dk_at dksX3_sheet_9 11 rfl rfl)
theorem dX3_sheet_230 : decode cX3_sheet 230 = .ok (.aload_n 0, 1) := dk_42 (dk_at dksX3_sheet_9 14 rfl rfl)
theorem dX3_sheet_231 : decode cX3_sheet 231 = .ok (.iconst 0, 1) := dk_3 (dk_at dksX3_sheet_9 15 rfl rfl)
theorem dX3_sheet_232 : decode cX3_sheet 232 = .ok (.putfield 114, 3) := dk_181 0 114 (dk_at dksX3_sheet_9 16 rfl rfl)
theorem dX3_sheet_235 : decode cX3_sheet 235 = .ok (.aload_n 0, 1) := dk_42 (dk_at dksX3_sheet_9 19 rfl rfl)
theorem dX3_sheet_236 : decode cX3_sheet 236 = .ok (.iconst 0, 1) := dk_3 (dk_at dksX3_sheet_9 20 rfl rfl)
theorem dX3_sheet_237 : decode cX3_sheet 237 = .ok (.putfield 231, 3) := dk_181 0 231 (dk_at dksX3_sheet_9 21 rfl rfl)
theorem dX3_sheet_240 : decode cX3_sheet 240 = .ok (.aload_n 0, 1) := dk_42 (dk_at dksX3_sheet_10 0 rfl rfl)
theorem dX3_sheet_241 : decode cX3_sheet 241 = .ok (.iconst 0, 1) := dk_3 (dk_at dksX3_sheet_10 1 rfl rfl)
theorem dX3_sheet_242 : decode cX3_sheet 242 = .ok (.putfield 234, 3) := dk_181 0 234 (dk_at dksX3_sheet_10 2 rfl rfl)
theorem dX3_sheet_245 : decode cX3_sheet 245 = .ok (.aload_n 0, 1) := dk_42 (dk_at dksX3_sheet_10 5 rfl rfl)
theorem dX3_sheet_246 : decode cX3_sheet 246 = .ok (.invokevirtual 237, 3) := dk_182 0 237 (dk_at dksX3_sheet_10 6 rfl rfl)
theorem dX3_sheet_249 : decode cX3_sheet 249 = .ok (.ireturn, 1) := dk_172 (dk_at dksX3_sheet_10 9 rfl rfl)
def dkwX3_voters_0 : List UInt8 := [42, 180, 0, 39, 3, 46, 172]
abbrev dktX3_voters_0 : List UInt8 := dkwX3_voters_0 ++ []
theorem dksX3_voters_0 : cX3_voters.data.toList.drop 0 = dktX3_voters_0 := by decide +kernel
theorem dX3_voters_0 : decode cX3_voters 0 = .ok (.aload_n 0, 1) := dk_42 (dk_at dksX3_voters_0 0 rfl rfl)
theorem dX3_voters_1 : decode cX3_voters 1 = .ok (.getfield 39, 3) := dk_180 0 39 (dk_at dksX3_voters_0 1 rfl rfl)
theorem dX3_voters_4 : decode cX3_voters 4 = .ok (.iconst 0, 1) := dk_3 (dk_at dksX3_voters_0 4 rfl rfl)
theorem dX3_voters_5 : decode cX3_voters 5 = .ok (.iaload, 1) := dk_46 (dk_at dksX3_voters_0 5 rfl rfl)
theorem dX3_voters_6 : decode cX3_voters 6 = .ok (.ireturn, 1) := dk_172 (dk_at dksX3_voters_0 6 rfl rfl)
def dkwX3_voter_4 : List UInt8 := [180, 0, 30, 3, 50, 27, 46, 172, 2, 172]
abbrev dktX3_voter_4 : List UInt8 := dkwX3_voter_4 ++ []
def dkwX3_voter_3 : List UInt8 := [27, 46, 172, 42, 180, 0, 24, 3, 50, 27, 46, 172, 42, 180, 0, 27, 3, 50, 27, 46, 172, 42]
abbrev dktX3_voter_3 : List UInt8 := dkwX3_voter_3 ++ dktX3_voter_4
def dkwX3_voter_2 : List UInt8 := [42, 180, 0, 15, 3, 50, 27, 46, 172, 42, 180, 0, 18, 3, 50, 27, 46, 172, 42, 180, 0, 21, 3, 50]
abbrev dktX3_voter_2 : List UInt8 := dkwX3_voter_2 ++ dktX3_voter_3
def dkwX3_voter_1 : List UInt8 := [170, 0, 0, 0, 91, 0, 0, 0, 0, 0, 0, 0, 5, 0, 0, 0, 37, 0, 0, 0, 46, 0, 0, 0, 55, 0, 0, 0, 64, 0, 0, 0, 73, 0, 0, 0, 82]
abbrev dktX3_voter_1 : List UInt8 := dkwX3_voter_1 ++ dktX3_voter_2
def dkwX3_voter_0 : List UInt8 := [42, 27, 182, 0, 245, 154, 0, 5, 2, 172, 28]
abbrev dktX3_voter_0 : List UInt8 := dkwX3_voter_0 ++ dktX3_voter_1
theorem dksX3_voter_0 : cX3_voter.data.toList.drop 0 = dktX3_voter_0 := by decide +kernel
theorem dksX3_voter_1 : cX3_voter.data.toList.drop 11 = dktX3_voter_1 := dk_seg dksX3_voter_0 11 rfl rfl
theorem dksX3_voter_2 : cX3_voter.data.toList.drop 48 = dktX3_voter_2 := dk_seg dksX3_voter_1 37 rfl rfl
theorem dksX3_voter_3 : cX3_voter.data.toList.drop 72 = dktX3_voter_3 := dk_seg dksX3_voter_2 24 rfl rfl
theorem dksX3_voter_4 : cX3_voter.data.toList.drop 94 = dktX3_voter_4 := dk_seg dksX3_voter_3 22 rfl rfl
theorem dX3_voter_0 : decode cX3_voter 0 = .ok (.aload_n 0, 1) := dk_42 (dk_at dksX3_voter_0 0 rfl rfl)
theorem dX3_voter_1 : decode cX3_voter 1 = .ok (.iload_n 1, 1) := dk_27 (dk_at dksX3_voter_0 1 rfl rfl)
theorem dX3_voter_2 : decode cX3_voter 2 = .ok (.invokevirtual 245, 3) := dk_182 0 245 (dk_at dksX3_voter_0 2 rfl rfl)
theorem dX3_voter_5 : decode cX3_voter 5 = .ok (.ifCond .ne 5, 3) := dk_154 0 5 (dk_at dksX3_voter_0 5 rfl rfl)
theorem dX3_voter_8 : decode cX3_voter 8 = .ok (.iconst (-1), 1) := dk_2 (dk_at dksX3_voter_0 8 rfl rfl)
theorem dX3_voter_9 : decode cX3_voter 9 = .ok (.ireturn, 1) := dk_172 (dk_at dksX3_voter_0 9 rfl rfl)
theorem dX3_voter_10 : decode cX3_voter 10 = .ok (.iload_n 2, 1) := dk_28 (dk_at dksX3_voter_0 10 rfl rfl)
theorem dX3_voter_11 : decode cX3_voter 11 = .ok (.tableswitch 91 0 5 #[37, 46, 55, 64, 73, 82], 37) := by decide +kernel
theorem dX3_voter_48 : decode cX3_voter 48 = .ok (.aload_n 0, 1) := dk_42 (dk_at dksX3_voter_2 0 rfl rfl)
theorem dX3_voter_49 : decode cX3_voter 49 = .ok (.getfield 15, 3) := dk_180 0 15 (dk_at dksX3_voter_2 1 rfl rfl)
theorem dX3_voter_52 : decode cX3_voter 52 = .ok (.iconst 0, 1) := dk_3 (dk_at dksX3_voter_2 4 rfl rfl)
theorem dX3_voter_53 : decode cX3_voter 53 = .ok (.aaload, 1) := dk_50 (dk_at dksX3_voter_2 5 rfl rfl)
theorem dX3_voter_54 : decode cX3_voter 54 = .ok (.iload_n 1, 1) := dk_27 (dk_at dksX3_voter_2 6 rfl rfl)
theorem dX3_voter_55 : decode cX3_voter 55 = .ok (.iaload, 1) := dk_46 (dk_at dksX3_voter_2 7 rfl rfl)
theorem dX3_voter_56 : decode cX3_voter 56 = .ok (.ireturn, 1) := dk_172 (dk_at dksX3_voter_2 8 rfl rfl)
theorem dX3_voter_57 : decode cX3_voter 57 = .ok (.aload_n 0, 1) := dk_42 (dk_at dksX3_voter_2 9 rfl rfl)
theorem dX3_voter_58 : decode cX3_voter 58 = .ok (.getfield 18, 3) := dk_180 0 18 (dk_at dksX3_voter_2 10 rfl rfl)
theorem dX3_voter_61 : decode cX3_voter 61 = .ok (.iconst 0, 1) := dk_3 (dk_at dksX3_voter_2 13 rfl rfl)
theorem dX3_voter_62 : decode cX3_voter 62 = .ok (.aaload, 1) := dk_50 (dk_at dksX3_voter_2 14 rfl rfl)
theorem dX3_voter_63 : decode cX3_voter 63 = .ok (.iload_n 1, 1) := dk_27 (dk_at dksX3_voter_2 15 rfl rfl)
theorem dX3_voter_64 : decode cX3_voter 64 = .ok (.iaload, 1) := dk_46 (dk_at dksX3_voter_2 16 rfl rfl)
theorem dX3_voter_65 : decode cX3_voter 65 = .ok (.ireturn, 1) := dk_172 (dk_at dksX3_voter_2 17 rfl rfl)
theorem dX3_voter_66 : decode cX3_voter 66 = .ok (.aload_n 0, 1) := dk_42 (dk_at dksX3_voter_2 18 rfl rfl)
theorem dX3_voter_67 : decode cX3_voter 67 = .ok (.getfield 21, 3) := dk_180 0 21 (dk_at dksX3_voter_2 19 rfl rfl)
theorem dX3_voter_70 : decode cX3_voter 70 = .ok (.iconst 0, 1) := dk_3 (dk_at dksX3_voter_2 22 rfl rfl)
theorem dX3_voter_71 : decode cX3_voter 71 = .ok (.aaload, 1) := dk_50 (dk_at dksX3_voter_2 23 rfl rfl)
theorem dX3_voter_72 : decode cX3_voter 72 = .ok (.iload_n 1, 1) := dk_27 (dk_at dksX3_voter_3 0 rfl rfl)
theorem dX3_voter_73 : decode cX3_voter 73 = .ok (.iaload, 1) := dk_46 (dk_at dksX3_voter_3 1 rfl rfl)
theorem dX3_voter_74 : decode cX3_voter 74 = .ok (.ireturn, 1) := dk_172 (dk_at dksX3_voter_3 2 rfl rfl)
theorem dX3_voter_75 : decode cX3_voter 75 = .ok (.aload_n 0, 1) := dk_42 (dk_at dksX3_voter_3 3 rfl rfl)
theorem dX3_voter_76 : decode cX3_voter 76 = .ok (.getfield 24, 3) := dk_180 0 24 (dk_at dksX3_voter_3 4 rfl rfl)
theorem dX3_voter_79 : decode cX3_voter 79 = .ok (.iconst 0, 1) := dk_3 (dk_at dksX3_voter_3 7 rfl rfl)
theorem dX3_voter_80 : decode cX3_voter 80 = .ok (.aaload, 1) := dk_50 (dk_at dksX3_voter_3 8 rfl rfl)
theorem dX3_voter_81 : decode cX3_voter 81 = .ok (.iload_n 1, 1) := dk_27 (dk_at dksX3_voter_3 9 rfl rfl)
theorem dX3_voter_82 : decode cX3_voter 82 = .ok (.iaload, 1) := dk_46 (dk_at dksX3_voter_3 10 rfl rfl)
theorem dX3_voter_83 : decode cX3_voter 83 = .ok (.ireturn, 1) := dk_172 (dk_at dksX3_voter_3 11 rfl rfl)
theorem dX3_voter_84 : decode cX3_voter 84 = .ok (.aload_n 0, 1) := dk_42 (dk_at dksX3_voter_3 12 rfl rfl)
theorem dX3_voter_85 : decode cX3_voter 85 = .ok (.getfield 27, 3) := dk_180 0 27 (dk_at dksX3_voter_3 13 rfl rfl)
theorem dX3_voter_88 : decode cX3_voter 88 = .ok (.iconst 0, 1) := dk_3 (dk_at dksX3_voter_3 16 rfl rfl)
theorem dX3_voter_89 : decode cX3_voter 89 = .ok (.aaload, 1) := dk_50 (dk_at dksX3_voter_3 17 rfl rfl)
theorem dX3_voter_90 : decode cX3_voter 90 = .ok (.iload_n 1, 1) := dk_27 (dk_at dksX3_voter_3 18 rfl rfl)
theorem dX3_voter_91 : decode cX3_voter 91 = .ok (.iaload, 1) := dk_46 (dk_at dksX3_voter_3 19 rfl rfl)
theorem dX3_voter_92 : decode cX3_voter 92 = .ok (.ireturn, 1) := dk_172 (dk_at dksX3_voter_3 20 rfl rfl)
theorem dX3_voter_93 : decode cX3_voter 93 = .ok (.aload_n 0, 1) := dk_42 (dk_at dksX3_voter_3 21 rfl rfl)
theorem dX3_voter_94 : decode cX3_voter 94 = .ok (.getfield 30, 3) := dk_180 0 30 (dk_at dksX3_voter_4 0 rfl rfl)
theorem dX3_voter_97 : decode cX3_voter 97 = .ok (.iconst 0, 1) := dk_3 (dk_at dksX3_voter_4 3 rfl rfl)
theorem dX3_voter_98 : decode cX3_voter 98 = .ok (.aaload, 1) := dk_50 (dk_at dksX3_voter_4 4 rfl rfl)
theorem dX3_voter_99 : decode cX3_voter 99 = .ok (.iload_n 1, 1) := dk_27 (dk_at dksX3_voter_4 5 rfl rfl)
theorem dX3_voter_100 : decode cX3_voter 100 = .ok (.iaload, 1) := dk_46 (dk_at dksX3_voter_4 6 rfl rfl)
theorem dX3_voter_101 : decode cX3_voter 101 = .ok (.ireturn, 1) := dk_172 (dk_at dksX3_voter_4 7 rfl rfl)
theorem dX3_voter_102 : decode cX3_voter 102 = .ok (.iconst (-1), 1) := dk_2 (dk_at dksX3_voter_4 8 rfl rfl)
theorem dX3_voter_103 : decode cX3_voter 103 = .ok (.ireturn, 1) := dk_172 (dk_at dksX3_voter_4 9 rfl rfl)
def dkwX3_isVoter_0 : List UInt8 := [27, 133, 9, 42, 182, 0, 237, 4, 100, 133, 184, 0, 122, 172]
abbrev dktX3_isVoter_0 : List UInt8 := dkwX3_isVoter_0 ++ []
theorem dksX3_isVoter_0 : cX3_isVoter.data.toList.drop 0 = dktX3_isVoter_0 := by decide +kernel
theorem dX3_isVoter_0 : decode cX3_isVoter 0 = .ok (.iload_n 1, 1) := dk_27 (dk_at dksX3_isVoter_0 0 rfl rfl)
theorem dX3_isVoter_1 : decode cX3_isVoter 1 = .ok (.i2l, 1) := dk_133 (dk_at dksX3_isVoter_0 1 rfl rfl)
theorem dX3_isVoter_2 : decode cX3_isVoter 2 = .ok (.lconst 0, 1) := dk_9 (dk_at dksX3_isVoter_0 2 rfl rfl)
theorem dX3_isVoter_3 : decode cX3_isVoter 3 = .ok (.aload_n 0, 1) := dk_42 (dk_at dksX3_isVoter_0 3 rfl rfl)
theorem dX3_isVoter_4 : decode cX3_isVoter 4 = .ok (.invokevirtual 237, 3) := dk_182 0 237 (dk_at dksX3_isVoter_0 4 rfl rfl)
theorem dX3_isVoter_7 : decode cX3_isVoter 7 = .ok (.iconst 1, 1) := dk_4 (dk_at dksX3_isVoter_0 7 rfl rfl)
theorem dX3_isVoter_8 : decode cX3_isVoter 8 = .ok (.isub, 1) := dk_100 (dk_at dksX3_isVoter_0 8 rfl rfl)
theorem dX3_isVoter_9 : decode cX3_isVoter 9 = .ok (.i2l, 1) := dk_133 (dk_at dksX3_isVoter_0 9 rfl rfl)
theorem dX3_isVoter_10 : decode cX3_isVoter 10 = .ok (.invokestatic 122, 3) := dk_184 0 122 (dk_at dksX3_isVoter_0 10 rfl rfl)
theorem dX3_isVoter_13 : decode cX3_isVoter 13 = .ok (.ireturn, 1) := dk_172 (dk_at dksX3_isVoter_0 13 rfl rfl)
def dkwX3_place_1 : List UInt8 := [154, 0, 14, 42, 180, 0, 33, 3, 50, 27, 46, 167, 0, 11, 42, 180, 0, 36, 3, 50, 27, 46, 172]
abbrev dktX3_place_1 : List UInt8 := dkwX3_place_1 ++ []
def dkwX3_place_0 : List UInt8 := [42, 27, 182, 0, 248, 153, 0, 13, 28, 133, 9, 10, 184, 0, 122, 154, 0, 7, 2, 167, 0, 26, 28]
abbrev dktX3_place_0 : List UInt8 := dkwX3_place_0 ++ dktX3_place_1
theorem dksX3_place_0 : cX3_place.data.toList.drop 0 = dktX3_place_0 := by decide +kernel
theorem dksX3_place_1 : cX3_place.data.toList.drop 23 = dktX3_place_1 := dk_seg dksX3_place_0 23 rfl rfl
theorem dX3_place_0 : decode cX3_place 0 = .ok (.aload_n 0, 1) := dk_42 (dk_at dksX3_place_0 0 rfl rfl)
theorem dX3_place_1 : decode cX3_place 1 = .ok (.iload_n 1, 1) := dk_27 (dk_at dksX3_place_0 1 rfl rfl)
theorem dX3_place_2 : decode cX3_place 2 = .ok (.invokevirtual 248, 3) := dk_182 0 248 (dk_at dksX3_place_0 2 rfl rfl)
theorem dX3_place_5 : decode cX3_place 5 = .ok (.ifCond .eq 13, 3) := dk_153 0 13 (dk_at dksX3_place_0 5 rfl rfl)
theorem dX3_place_8 : decode cX3_place 8 = .ok (.iload_n 2, 1) := dk_28 (dk_at dksX3_place_0 8 rfl rfl)
theorem dX3_place_9 : decode cX3_place 9 = .ok (.i2l, 1) := dk_133 (dk_at dksX3_place_0 9 rfl rfl)
theorem dX3_place_10 : decode cX3_place 10 = .ok (.lconst 0, 1) := dk_9 (dk_at dksX3_place_0 10 rfl rfl)
theorem dX3_place_11 : decode cX3_place 11 = .ok (.lconst 1, 1) := dk_10 (dk_at dksX3_place_0 11 rfl rfl)
theorem dX3_place_12 : decode cX3_place 12 = .ok (.invokestatic 122, 3) := dk_184 0 122 (dk_at dksX3_place_0 12 rfl rfl)
theorem dX3_place_15 : decode cX3_place 15 = .ok (.ifCond .ne 7, 3) := dk_154 0 7 (dk_at dksX3_place_0 15 rfl rfl)
theorem dX3_place_18 : decode cX3_place 18 = .ok (.iconst (-1), 1) := dk_2 (dk_at dksX3_place_0 18 rfl rfl)
theorem dX3_place_19 : decode cX3_place 19 = .ok (.goto 26, 3) := dk_167 0 26 (dk_at dksX3_place_0 19 rfl rfl)
theorem dX3_place_22 : decode cX3_place 22 = .ok (.iload_n 2, 1) := dk_28 (dk_at dksX3_place_0 22 rfl rfl)
theorem dX3_place_23 : decode cX3_place 23 = .ok (.ifCond .ne 14, 3) := dk_154 0 14 (dk_at dksX3_place_1 0 rfl rfl)
theorem dX3_place_26 : decode cX3_place 26 = .ok (.aload_n 0, 1) := dk_42 (dk_at dksX3_place_1 3 rfl rfl)
theorem dX3_place_27 : decode cX3_place 27 = .ok (.getfield 33, 3) := dk_180 0 33 (dk_at dksX3_place_1 4 rfl rfl)
theorem dX3_place_30 : decode cX3_place 30 = .ok (.iconst 0, 1) := dk_3 (dk_at dksX3_place_1 7 rfl rfl)
theorem dX3_place_31 : decode cX3_place 31 = .ok (.aaload, 1) := dk_50 (dk_at dksX3_place_1 8 rfl rfl)
theorem dX3_place_32 : decode cX3_place 32 = .ok (.iload_n 1, 1) := dk_27 (dk_at dksX3_place_1 9 rfl rfl)
theorem dX3_place_33 : decode cX3_place 33 = .ok (.iaload, 1) := dk_46 (dk_at dksX3_place_1 10 rfl rfl)
theorem dX3_place_34 : decode cX3_place 34 = .ok (.goto 11, 3) := dk_167 0 11 (dk_at dksX3_place_1 11 rfl rfl)
theorem dX3_place_37 : decode cX3_place 37 = .ok (.aload_n 0, 1) := dk_42 (dk_at dksX3_place_1 14 rfl rfl)
theorem dX3_place_38 : decode cX3_place 38 = .ok (.getfield 36, 3) := dk_180 0 36 (dk_at dksX3_place_1 15 rfl rfl)
theorem dX3_place_41 : decode cX3_place 41 = .ok (.iconst 0, 1) := dk_3 (dk_at dksX3_place_1 18 rfl rfl)
theorem dX3_place_42 : decode cX3_place 42 = .ok (.aaload, 1) := dk_50 (dk_at dksX3_place_1 19 rfl rfl)
theorem dX3_place_43 : decode cX3_place 43 = .ok (.iload_n 1, 1) := dk_27 (dk_at dksX3_place_1 20 rfl rfl)
theorem dX3_place_44 : decode cX3_place 44 = .ok (.iaload, 1) := dk_46 (dk_at dksX3_place_1 21 rfl rfl)
theorem dX3_place_45 : decode cX3_place 45 = .ok (.ireturn, 1) := dk_172 (dk_at dksX3_place_1 22 rfl rfl)
def dkwX3_isPlace_0 : List UInt8 := [27, 133, 9, 42, 182, 0, 242, 4, 100, 133, 184, 0, 122, 172]
abbrev dktX3_isPlace_0 : List UInt8 := dkwX3_isPlace_0 ++ []
theorem dksX3_isPlace_0 : cX3_isPlace.data.toList.drop 0 = dktX3_isPlace_0 := by decide +kernel
theorem dX3_isPlace_0 : decode cX3_isPlace 0 = .ok (.iload_n 1, 1) := dk_27 (dk_at dksX3_isPlace_0 0 rfl rfl)
theorem dX3_isPlace_1 : decode cX3_isPlace 1 = .ok (.i2l, 1) := dk_133 (dk_at dksX3_isPlace_0 1 rfl rfl)
theorem dX3_isPlace_2 : decode cX3_isPlace 2 = .ok (.lconst 0, 1) := dk_9 (dk_at dksX3_isPlace_0 2 rfl rfl)
theorem dX3_isPlace_3 : decode cX3_isPlace 3 = .ok (.aload_n 0, 1) := dk_42 (dk_at dksX3_isPlace_0 3 rfl rfl)
theorem dX3_isPlace_4 : decode cX3_isPlace 4 = .ok (.invokevirtual 242, 3) := dk_182 0 242 (dk_at dksX3_isPlace_0 4 rfl rfl)
theorem dX3_isPlace_7 : decode cX3_isPlace 7 = .ok (.iconst 1, 1) := dk_4 (dk_at dksX3_isPlace_0 7 rfl rfl)
theorem dX3_isPlace_8 : decode cX3_isPlace 8 = .ok (.isub, 1) := dk_100 (dk_at dksX3_isPlace_0 8 rfl rfl)
theorem dX3_isPlace_9 : decode cX3_isPlace 9 = .ok (.i2l, 1) := dk_133 (dk_at dksX3_isPlace_0 9 rfl rfl)
theorem dX3_isPlace_10 : decode cX3_isPlace 10 = .ok (.invokestatic 122, 3) := dk_184 0 122 (dk_at dksX3_isPlace_0 10 rfl rfl)
theorem dX3_isPlace_13 : decode cX3_isPlace 13 = .ok (.ireturn, 1) := dk_172 (dk_at dksX3_isPlace_0 13 rfl rfl)
def dkwX3_places_0 : List UInt8 := [42, 180, 0, 43, 3, 46, 172]
abbrev dktX3_places_0 : List UInt8 := dkwX3_places_0 ++ []
theorem dksX3_places_0 : cX3_places.data.toList.drop 0 = dktX3_places_0 := by decide +kernel
theorem dX3_places_0 : decode cX3_places 0 = .ok (.aload_n 0, 1) := dk_42 (dk_at dksX3_places_0 0 rfl rfl)
theorem dX3_places_1 : decode cX3_places 1 = .ok (.getfield 43, 3) := dk_180 0 43 (dk_at dksX3_places_0 1 rfl rfl)
theorem dX3_places_4 : decode cX3_places 4 = .ok (.iconst 0, 1) := dk_3 (dk_at dksX3_places_0 4 rfl rfl)
theorem dX3_places_5 : decode cX3_places 5 = .ok (.iaload, 1) := dk_46 (dk_at dksX3_places_0 5 rfl rfl)
theorem dX3_places_6 : decode cX3_places 6 = .ok (.ireturn, 1) := dk_172 (dk_at dksX3_places_0 6 rfl rfl)
def dkwX3_propose_2 : List UInt8 := [28, 79, 42, 180, 0, 43, 3, 92, 46, 4, 96, 79, 42, 182, 0, 242, 4, 100, 172]
abbrev dktX3_propose_2 : List UInt8 := dkwX3_propose_2 ++ []
def dkwX3_propose_1 : List UInt8 := [2, 172, 42, 180, 0, 33, 3, 50, 42, 182, 0, 242, 27, 79, 42, 180, 0, 36, 3, 50, 42, 182, 0, 242]
abbrev dktX3_propose_1 : List UInt8 := dkwX3_propose_1 ++ dktX3_propose_2
def dkwX3_propose_0 : List UInt8 := [42, 182, 0, 237, 153, 0, 20, 27, 28, 184, 0, 251, 153, 0, 12, 42, 182, 0, 242, 16, 20, 160, 0, 5]
abbrev dktX3_propose_0 : List UInt8 := dkwX3_propose_0 ++ dktX3_propose_1
theorem dksX3_propose_0 : cX3_propose.data.toList.drop 0 = dktX3_propose_0 := by decide +kernel
theorem dksX3_propose_1 : cX3_propose.data.toList.drop 24 = dktX3_propose_1 := dk_seg dksX3_propose_0 24 rfl rfl
theorem dksX3_propose_2 : cX3_propose.data.toList.drop 48 = dktX3_propose_2 := dk_seg dksX3_propose_1 24 rfl rfl
theorem dX3_propose_0 : decode cX3_propose 0 = .ok (.aload_n 0, 1) := dk_42 (dk_at dksX3_propose_0 0 rfl rfl)
theorem dX3_propose_1 : decode cX3_propose 1 = .ok (.invokevirtual 237, 3) := dk_182 0 237 (dk_at dksX3_propose_0 1 rfl rfl)
theorem dX3_propose_4 : decode cX3_propose 4 = .ok (.ifCond .eq 20, 3) := dk_153 0 20 (dk_at dksX3_propose_0 4 rfl rfl)
theorem dX3_propose_7 : decode cX3_propose 7 = .ok (.iload_n 1, 1) := dk_27 (dk_at dksX3_propose_0 7 rfl rfl)
theorem dX3_propose_8 : decode cX3_propose 8 = .ok (.iload_n 2, 1) := dk_28 (dk_at dksX3_propose_0 8 rfl rfl)
theorem dX3_propose_9 : decode cX3_propose 9 = .ok (.invokestatic 251, 3) := dk_184 0 251 (dk_at dksX3_propose_0 9 rfl rfl)
theorem dX3_propose_12 : decode cX3_propose 12 = .ok (.ifCond .eq 12, 3) := dk_153 0 12 (dk_at dksX3_propose_0 12 rfl rfl)
theorem dX3_propose_15 : decode cX3_propose 15 = .ok (.aload_n 0, 1) := dk_42 (dk_at dksX3_propose_0 15 rfl rfl)
theorem dX3_propose_16 : decode cX3_propose 16 = .ok (.invokevirtual 242, 3) := dk_182 0 242 (dk_at dksX3_propose_0 16 rfl rfl)
theorem dX3_propose_19 : decode cX3_propose 19 = .ok (.bipush 20, 2) := dk_16 20 (dk_at dksX3_propose_0 19 rfl rfl)
theorem dX3_propose_21 : decode cX3_propose 21 = .ok (.if_icmp .ne 5, 3) := dk_160 0 5 (dk_at dksX3_propose_0 21 rfl rfl)
theorem dX3_propose_24 : decode cX3_propose 24 = .ok (.iconst (-1), 1) := dk_2 (dk_at dksX3_propose_1 0 rfl rfl)
theorem dX3_propose_25 : decode cX3_propose 25 = .ok (.ireturn, 1) := dk_172 (dk_at dksX3_propose_1 1 rfl rfl)
theorem dX3_propose_26 : decode cX3_propose 26 = .ok (.aload_n 0, 1) := dk_42 (dk_at dksX3_propose_1 2 rfl rfl)
theorem dX3_propose_27 : decode cX3_propose 27 = .ok (.getfield 33, 3) := dk_180 0 33 (dk_at dksX3_propose_1 3 rfl rfl)
theorem dX3_propose_30 : decode cX3_propose 30 = .ok (.iconst 0, 1) := dk_3 (dk_at dksX3_propose_1 6 rfl rfl)
theorem dX3_propose_31 : decode cX3_propose 31 = .ok (.aaload, 1) := dk_50 (dk_at dksX3_propose_1 7 rfl rfl)
theorem dX3_propose_32 : decode cX3_propose 32 = .ok (.aload_n 0, 1) := dk_42 (dk_at dksX3_propose_1 8 rfl rfl)
theorem dX3_propose_33 : decode cX3_propose 33 = .ok (.invokevirtual 242, 3) := dk_182 0 242 (dk_at dksX3_propose_1 9 rfl rfl)
theorem dX3_propose_36 : decode cX3_propose 36 = .ok (.iload_n 1, 1) := dk_27 (dk_at dksX3_propose_1 12 rfl rfl)
theorem dX3_propose_37 : decode cX3_propose 37 = .ok (.iastore, 1) := dk_79 (dk_at dksX3_propose_1 13 rfl rfl)
theorem dX3_propose_38 : decode cX3_propose 38 = .ok (.aload_n 0, 1) := dk_42 (dk_at dksX3_propose_1 14 rfl rfl)
theorem dX3_propose_39 : decode cX3_propose 39 = .ok (.getfield 36, 3) := dk_180 0 36 (dk_at dksX3_propose_1 15 rfl rfl)
theorem dX3_propose_42 : decode cX3_propose 42 = .ok (.iconst 0, 1) := dk_3 (dk_at dksX3_propose_1 18 rfl rfl)
theorem dX3_propose_43 : decode cX3_propose 43 = .ok (.aaload, 1) := dk_50 (dk_at dksX3_propose_1 19 rfl rfl)
theorem dX3_propose_44 : decode cX3_propose 44 = .ok (.aload_n 0, 1) := dk_42 (dk_at dksX3_propose_1 20 rfl rfl)
theorem dX3_propose_45 : decode cX3_propose 45 = .ok (.invokevirtual 242, 3) := dk_182 0 242 (dk_at dksX3_propose_1 21 rfl rfl)
theorem dX3_propose_48 : decode cX3_propose 48 = .ok (.iload_n 2, 1) := dk_28 (dk_at dksX3_propose_2 0 rfl rfl)
theorem dX3_propose_49 : decode cX3_propose 49 = .ok (.iastore, 1) := dk_79 (dk_at dksX3_propose_2 1 rfl rfl)
theorem dX3_propose_50 : decode cX3_propose 50 = .ok (.aload_n 0, 1) := dk_42 (dk_at dksX3_propose_2 2 rfl rfl)
theorem dX3_propose_51 : decode cX3_propose 51 = .ok (.getfield 43, 3) := dk_180 0 43 (dk_at dksX3_propose_2 3 rfl rfl)
theorem dX3_propose_54 : decode cX3_propose 54 = .ok (.iconst 0, 1) := dk_3 (dk_at dksX3_propose_2 6 rfl rfl)
theorem dX3_propose_55 : decode cX3_propose 55 = .ok (.dup2, 1) := dk_92 (dk_at dksX3_propose_2 7 rfl rfl)
theorem dX3_propose_56 : decode cX3_propose 56 = .ok (.iaload, 1) := dk_46 (dk_at dksX3_propose_2 8 rfl rfl)
theorem dX3_propose_57 : decode cX3_propose 57 = .ok (.iconst 1, 1) := dk_4 (dk_at dksX3_propose_2 9 rfl rfl)
theorem dX3_propose_58 : decode cX3_propose 58 = .ok (.iadd, 1) := dk_96 (dk_at dksX3_propose_2 10 rfl rfl)
theorem dX3_propose_59 : decode cX3_propose 59 = .ok (.iastore, 1) := dk_79 (dk_at dksX3_propose_2 11 rfl rfl)
theorem dX3_propose_60 : decode cX3_propose 60 = .ok (.aload_n 0, 1) := dk_42 (dk_at dksX3_propose_2 12 rfl rfl)
theorem dX3_propose_61 : decode cX3_propose 61 = .ok (.invokevirtual 242, 3) := dk_182 0 242 (dk_at dksX3_propose_2 13 rfl rfl)
theorem dX3_propose_64 : decode cX3_propose 64 = .ok (.iconst 1, 1) := dk_4 (dk_at dksX3_propose_2 16 rfl rfl)
theorem dX3_propose_65 : decode cX3_propose 65 = .ok (.isub, 1) := dk_100 (dk_at dksX3_propose_2 17 rfl rfl)
theorem dX3_propose_66 : decode cX3_propose 66 = .ok (.ireturn, 1) := dk_172 (dk_at dksX3_propose_2 18 rfl rfl)
def dkwX3_isPoint_1 : List UInt8 := [4, 167, 0, 4, 3, 172]
abbrev dktX3_isPoint_1 : List UInt8 := dkwX3_isPoint_1 ++ []
def dkwX3_isPoint_0 : List UInt8 := [26, 133, 9, 20, 0, 240, 184, 0, 122, 153, 0, 19, 27, 133, 9, 20, 0, 240, 184, 0, 122, 153, 0, 7]
abbrev dktX3_isPoint_0 : List UInt8 := dkwX3_isPoint_0 ++ dktX3_isPoint_1
theorem dksX3_isPoint_0 : cX3_isPoint.data.toList.drop 0 = dktX3_isPoint_0 := by decide +kernel
theorem dksX3_isPoint_1 : cX3_isPoint.data.toList.drop 24 = dktX3_isPoint_1 := dk_seg dksX3_isPoint_0 24 rfl rfl
theorem dX3_isPoint_0 : decode cX3_isPoint 0 = .ok (.iload_n 0, 1) := dk_26 (dk_at dksX3_isPoint_0 0 rfl rfl)
theorem dX3_isPoint_1 : decode cX3_isPoint 1 = .ok (.i2l, 1) := dk_133 (dk_at dksX3_isPoint_0 1 rfl rfl)
theorem dX3_isPoint_2 : decode cX3_isPoint 2 = .ok (.lconst 0, 1) := dk_9 (dk_at dksX3_isPoint_0 2 rfl rfl)
theorem dX3_isPoint_3 : decode cX3_isPoint 3 = .ok (.ldc2_w 240, 3) := dk_20 0 240 (dk_at dksX3_isPoint_0 3 rfl rfl)
theorem dX3_isPoint_6 : decode cX3_isPoint 6 = .ok (.invokestatic 122, 3) := dk_184 0 122 (dk_at dksX3_isPoint_0 6 rfl rfl)
theorem dX3_isPoint_9 : decode cX3_isPoint 9 = .ok (.ifCond .eq 19, 3) := dk_153 0 19 (dk_at dksX3_isPoint_0 9 rfl rfl)
theorem dX3_isPoint_12 : decode cX3_isPoint 12 = .ok (.iload_n 1, 1) := dk_27 (dk_at dksX3_isPoint_0 12 rfl rfl)
theorem dX3_isPoint_13 : decode cX3_isPoint 13 = .ok (.i2l, 1) := dk_133 (dk_at dksX3_isPoint_0 13 rfl rfl)
theorem dX3_isPoint_14 : decode cX3_isPoint 14 = .ok (.lconst 0, 1) := dk_9 (dk_at dksX3_isPoint_0 14 rfl rfl)
theorem dX3_isPoint_15 : decode cX3_isPoint 15 = .ok (.ldc2_w 240, 3) := dk_20 0 240 (dk_at dksX3_isPoint_0 15 rfl rfl)
theorem dX3_isPoint_18 : decode cX3_isPoint 18 = .ok (.invokestatic 122, 3) := dk_184 0 122 (dk_at dksX3_isPoint_0 18 rfl rfl)
theorem dX3_isPoint_21 : decode cX3_isPoint 21 = .ok (.ifCond .eq 7, 3) := dk_153 0 7 (dk_at dksX3_isPoint_0 21 rfl rfl)
theorem dX3_isPoint_24 : decode cX3_isPoint 24 = .ok (.iconst 1, 1) := dk_4 (dk_at dksX3_isPoint_1 0 rfl rfl)
theorem dX3_isPoint_25 : decode cX3_isPoint 25 = .ok (.goto 4, 3) := dk_167 0 4 (dk_at dksX3_isPoint_1 1 rfl rfl)
theorem dX3_isPoint_28 : decode cX3_isPoint 28 = .ok (.iconst 0, 1) := dk_3 (dk_at dksX3_isPoint_1 4 rfl rfl)
theorem dX3_isPoint_29 : decode cX3_isPoint 29 = .ok (.ireturn, 1) := dk_172 (dk_at dksX3_isPoint_1 5 rfl rfl)
def dkwX3_way_1 : List UInt8 := [167, 0, 4, 2, 172]
abbrev dktX3_way_1 : List UInt8 := dkwX3_way_1 ++ []
def dkwX3_way_0 : List UInt8 := [42, 27, 182, 0, 245, 153, 0, 21, 28, 29, 184, 0, 251, 153, 0, 13, 42, 27, 28, 29, 182, 1, 6]
abbrev dktX3_way_0 : List UInt8 := dkwX3_way_0 ++ dktX3_way_1
theorem dksX3_way_0 : cX3_way.data.toList.drop 0 = dktX3_way_0 := by decide +kernel
theorem dksX3_way_1 : cX3_way.data.toList.drop 23 = dktX3_way_1 := dk_seg dksX3_way_0 23 rfl rfl
theorem dX3_way_0 : decode cX3_way 0 = .ok (.aload_n 0, 1) := dk_42 (dk_at dksX3_way_0 0 rfl rfl)
theorem dX3_way_1 : decode cX3_way 1 = .ok (.iload_n 1, 1) := dk_27 (dk_at dksX3_way_0 1 rfl rfl)
theorem dX3_way_2 : decode cX3_way 2 = .ok (.invokevirtual 245, 3) := dk_182 0 245 (dk_at dksX3_way_0 2 rfl rfl)
theorem dX3_way_5 : decode cX3_way 5 = .ok (.ifCond .eq 21, 3) := dk_153 0 21 (dk_at dksX3_way_0 5 rfl rfl)
theorem dX3_way_8 : decode cX3_way 8 = .ok (.iload_n 2, 1) := dk_28 (dk_at dksX3_way_0 8 rfl rfl)
theorem dX3_way_9 : decode cX3_way 9 = .ok (.iload_n 3, 1) := dk_29 (dk_at dksX3_way_0 9 rfl rfl)
theorem dX3_way_10 : decode cX3_way 10 = .ok (.invokestatic 251, 3) := dk_184 0 251 (dk_at dksX3_way_0 10 rfl rfl)
theorem dX3_way_13 : decode cX3_way 13 = .ok (.ifCond .eq 13, 3) := dk_153 0 13 (dk_at dksX3_way_0 13 rfl rfl)
theorem dX3_way_16 : decode cX3_way 16 = .ok (.aload_n 0, 1) := dk_42 (dk_at dksX3_way_0 16 rfl rfl)
theorem dX3_way_17 : decode cX3_way 17 = .ok (.iload_n 1, 1) := dk_27 (dk_at dksX3_way_0 17 rfl rfl)
theorem dX3_way_18 : decode cX3_way 18 = .ok (.iload_n 2, 1) := dk_28 (dk_at dksX3_way_0 18 rfl rfl)
theorem dX3_way_19 : decode cX3_way 19 = .ok (.iload_n 3, 1) := dk_29 (dk_at dksX3_way_0 19 rfl rfl)
theorem dX3_way_20 : decode cX3_way 20 = .ok (.invokevirtual 262, 3) := dk_182 1 6 (dk_at dksX3_way_0 20 rfl rfl)
theorem dX3_way_23 : decode cX3_way 23 = .ok (.goto 4, 3) := dk_167 0 4 (dk_at dksX3_way_1 0 rfl rfl)
theorem dX3_way_26 : decode cX3_way 26 = .ok (.iconst (-1), 1) := dk_2 (dk_at dksX3_way_1 3 rfl rfl)
theorem dX3_way_27 : decode cX3_way 27 = .ok (.ireturn, 1) := dk_172 (dk_at dksX3_way_1 4 rfl rfl)
def dkwX3_wayOf_0 : List UInt8 := [42, 27, 42, 180, 0, 15, 3, 50, 27, 46, 42, 180, 0, 18, 3, 50, 27, 46, 28, 29, 182, 1, 2, 172]
abbrev dktX3_wayOf_0 : List UInt8 := dkwX3_wayOf_0 ++ []
theorem dksX3_wayOf_0 : cX3_wayOf.data.toList.drop 0 = dktX3_wayOf_0 := by decide +kernel
theorem dX3_wayOf_0 : decode cX3_wayOf 0 = .ok (.aload_n 0, 1) := dk_42 (dk_at dksX3_wayOf_0 0 rfl rfl)
theorem dX3_wayOf_1 : decode cX3_wayOf 1 = .ok (.iload_n 1, 1) := dk_27 (dk_at dksX3_wayOf_0 1 rfl rfl)
theorem dX3_wayOf_2 : decode cX3_wayOf 2 = .ok (.aload_n 0, 1) := dk_42 (dk_at dksX3_wayOf_0 2 rfl rfl)
theorem dX3_wayOf_3 : decode cX3_wayOf 3 = .ok (.getfield 15, 3) := dk_180 0 15 (dk_at dksX3_wayOf_0 3 rfl rfl)
theorem dX3_wayOf_6 : decode cX3_wayOf 6 = .ok (.iconst 0, 1) := dk_3 (dk_at dksX3_wayOf_0 6 rfl rfl)
theorem dX3_wayOf_7 : decode cX3_wayOf 7 = .ok (.aaload, 1) := dk_50 (dk_at dksX3_wayOf_0 7 rfl rfl)
theorem dX3_wayOf_8 : decode cX3_wayOf 8 = .ok (.iload_n 1, 1) := dk_27 (dk_at dksX3_wayOf_0 8 rfl rfl)
theorem dX3_wayOf_9 : decode cX3_wayOf 9 = .ok (.iaload, 1) := dk_46 (dk_at dksX3_wayOf_0 9 rfl rfl)
theorem dX3_wayOf_10 : decode cX3_wayOf 10 = .ok (.aload_n 0, 1) := dk_42 (dk_at dksX3_wayOf_0 10 rfl rfl)
theorem dX3_wayOf_11 : decode cX3_wayOf 11 = .ok (.getfield 18, 3) := dk_180 0 18 (dk_at dksX3_wayOf_0 11 rfl rfl)
theorem dX3_wayOf_14 : decode cX3_wayOf 14 = .ok (.iconst 0, 1) := dk_3 (dk_at dksX3_wayOf_0 14 rfl rfl)
theorem dX3_wayOf_15 : decode cX3_wayOf 15 = .ok (.aaload, 1) := dk_50 (dk_at dksX3_wayOf_0 15 rfl rfl)
theorem dX3_wayOf_16 : decode cX3_wayOf 16 = .ok (.iload_n 1, 1) := dk_27 (dk_at dksX3_wayOf_0 16 rfl rfl)
theorem dX3_wayOf_17 : decode cX3_wayOf 17 = .ok (.iaload, 1) := dk_46 (dk_at dksX3_wayOf_0 17 rfl rfl)
theorem dX3_wayOf_18 : decode cX3_wayOf 18 = .ok (.iload_n 2, 1) := dk_28 (dk_at dksX3_wayOf_0 18 rfl rfl)
theorem dX3_wayOf_19 : decode cX3_wayOf 19 = .ok (.iload_n 3, 1) := dk_29 (dk_at dksX3_wayOf_0 19 rfl rfl)
theorem dX3_wayOf_20 : decode cX3_wayOf 20 = .ok (.invokevirtual 258, 3) := dk_182 1 2 (dk_at dksX3_wayOf_0 20 rfl rfl)
theorem dX3_wayOf_23 : decode cX3_wayOf 23 = .ok (.ireturn, 1) := dk_172 (dk_at dksX3_wayOf_0 23 rfl rfl)
def dkwX3_wayFrom_4 : List UInt8 := [184, 0, 192, 172, 21, 6, 172]
abbrev dktX3_wayFrom_4 : List UInt8 := dkwX3_wayFrom_4 ++ []
def dkwX3_wayFrom_3 : List UInt8 := [21, 6, 21, 6, 104, 21, 7, 21, 7, 104, 96, 172, 21, 6, 21, 7, 96, 172, 21, 6, 21, 7]
abbrev dktX3_wayFrom_3 : List UInt8 := dkwX3_wayFrom_3 ++ dktX3_wayFrom_4
def dkwX3_wayFrom_2 : List UInt8 := [170, 0, 0, 0, 0, 0, 0, 54, 0, 0, 0, 0, 0, 0, 0, 2, 0, 0, 0, 28, 0, 0, 0, 40, 0, 0, 0, 46]
abbrev dktX3_wayFrom_2 : List UInt8 := dkwX3_wayFrom_2 ++ dktX3_wayFrom_3
def dkwX3_wayFrom_1 : List UInt8 := [184, 0, 254, 42, 180, 0, 30, 3, 50, 27, 46, 104, 54, 7, 42, 180, 0, 24, 3, 50, 27, 46]
abbrev dktX3_wayFrom_1 : List UInt8 := dkwX3_wayFrom_1 ++ dktX3_wayFrom_2
def dkwX3_wayFrom_0 : List UInt8 := [21, 4, 28, 100, 184, 0, 254, 42, 180, 0, 27, 3, 50, 27, 46, 104, 54, 6, 21, 5, 29, 100]
abbrev dktX3_wayFrom_0 : List UInt8 := dkwX3_wayFrom_0 ++ dktX3_wayFrom_1
theorem dksX3_wayFrom_0 : cX3_wayFrom.data.toList.drop 0 = dktX3_wayFrom_0 := by decide +kernel
theorem dksX3_wayFrom_1 : cX3_wayFrom.data.toList.drop 22 = dktX3_wayFrom_1 := dk_seg dksX3_wayFrom_0 22 rfl rfl
theorem dksX3_wayFrom_2 : cX3_wayFrom.data.toList.drop 44 = dktX3_wayFrom_2 := dk_seg dksX3_wayFrom_1 22 rfl rfl
theorem dksX3_wayFrom_3 : cX3_wayFrom.data.toList.drop 72 = dktX3_wayFrom_3 := dk_seg dksX3_wayFrom_2 28 rfl rfl
theorem dksX3_wayFrom_4 : cX3_wayFrom.data.toList.drop 94 = dktX3_wayFrom_4 := dk_seg dksX3_wayFrom_3 22 rfl rfl
theorem dX3_wayFrom_0 : decode cX3_wayFrom 0 = .ok (.iload 4, 2) := dk_21 4 (dk_at dksX3_wayFrom_0 0 rfl rfl)
theorem dX3_wayFrom_2 : decode cX3_wayFrom 2 = .ok (.iload_n 2, 1) := dk_28 (dk_at dksX3_wayFrom_0 2 rfl rfl)
theorem dX3_wayFrom_3 : decode cX3_wayFrom 3 = .ok (.isub, 1) := dk_100 (dk_at dksX3_wayFrom_0 3 rfl rfl)
theorem dX3_wayFrom_4 : decode cX3_wayFrom 4 = .ok (.invokestatic 254, 3) := dk_184 0 254 (dk_at dksX3_wayFrom_0 4 rfl rfl)
theorem dX3_wayFrom_7 : decode cX3_wayFrom 7 = .ok (.aload_n 0, 1) := dk_42 (dk_at dksX3_wayFrom_0 7 rfl rfl)
theorem dX3_wayFrom_8 : decode cX3_wayFrom 8 = .ok (.getfield 27, 3) := dk_180 0 27 (dk_at dksX3_wayFrom_0 8 rfl rfl)
theorem dX3_wayFrom_11 : decode cX3_wayFrom 11 = .ok (.iconst 0, 1) := dk_3 (dk_at dksX3_wayFrom_0 11 rfl rfl)
theorem dX3_wayFrom_12 : decode cX3_wayFrom 12 = .ok (.aaload, 1) := dk_50 (dk_at dksX3_wayFrom_0 12 rfl rfl)
theorem dX3_wayFrom_13 : decode cX3_wayFrom 13 = .ok (.iload_n 1, 1) := dk_27 (dk_at dksX3_wayFrom_0 13 rfl rfl)
theorem dX3_wayFrom_14 : decode cX3_wayFrom 14 = .ok (.iaload, 1) := dk_46 (dk_at dksX3_wayFrom_0 14 rfl rfl)
theorem dX3_wayFrom_15 : decode cX3_wayFrom 15 = .ok (.imul, 1) := dk_104 (dk_at dksX3_wayFrom_0 15 rfl rfl)
theorem dX3_wayFrom_16 : decode cX3_wayFrom 16 = .ok (.istore 6, 2) := dk_54 6 (dk_at dksX3_wayFrom_0 16 rfl rfl)
theorem dX3_wayFrom_18 : decode cX3_wayFrom 18 = .ok (.iload 5, 2) := dk_21 5 (dk_at dksX3_wayFrom_0 18 rfl rfl)
theorem dX3_wayFrom_20 : decode cX3_wayFrom 20 = .ok (.iload_n 3, 1) := dk_29 (dk_at dksX3_wayFrom_0 20 rfl rfl)
theorem dX3_wayFrom_21 : decode cX3_wayFrom 21 = .ok (.isub, 1) := dk_100 (dk_at dksX3_wayFrom_0 21 rfl rfl)
theorem dX3_wayFrom_22 : decode cX3_wayFrom 22 = .ok (.invokestatic 254, 3) := dk_184 0 254 (dk_at dksX3_wayFrom_1 0 rfl rfl)
theorem dX3_wayFrom_25 : decode cX3_wayFrom 25 = .ok (.aload_n 0, 1) := dk_42 (dk_at dksX3_wayFrom_1 3 rfl rfl)
theorem dX3_wayFrom_26 : decode cX3_wayFrom 26 = .ok (.getfield 30, 3) := dk_180 0 30 (dk_at dksX3_wayFrom_1 4 rfl rfl)
theorem dX3_wayFrom_29 : decode cX3_wayFrom 29 = .ok (.iconst 0, 1) := dk_3 (dk_at dksX3_wayFrom_1 7 rfl rfl)
theorem dX3_wayFrom_30 : decode cX3_wayFrom 30 = .ok (.aaload, 1) := dk_50 (dk_at dksX3_wayFrom_1 8 rfl rfl)
theorem dX3_wayFrom_31 : decode cX3_wayFrom 31 = .ok (.iload_n 1, 1) := dk_27 (dk_at dksX3_wayFrom_1 9 rfl rfl)
theorem dX3_wayFrom_32 : decode cX3_wayFrom 32 = .ok (.iaload, 1) := dk_46 (dk_at dksX3_wayFrom_1 10 rfl rfl)
theorem dX3_wayFrom_33 : decode cX3_wayFrom 33 = .ok (.imul, 1) := dk_104 (dk_at dksX3_wayFrom_1 11 rfl rfl)
theorem dX3_wayFrom_34 : decode cX3_wayFrom 34 = .ok (.istore 7, 2) := dk_54 7 (dk_at dksX3_wayFrom_1 12 rfl rfl)
theorem dX3_wayFrom_36 : decode cX3_wayFrom 36 = .ok (.aload_n 0, 1) := dk_42 (dk_at dksX3_wayFrom_1 14 rfl rfl)
theorem dX3_wayFrom_37 : decode cX3_wayFrom 37 = .ok (.getfield 24, 3) := dk_180 0 24 (dk_at dksX3_wayFrom_1 15 rfl rfl)
theorem dX3_wayFrom_40 : decode cX3_wayFrom 40 = .ok (.iconst 0, 1) := dk_3 (dk_at dksX3_wayFrom_1 18 rfl rfl)
theorem dX3_wayFrom_41 : decode cX3_wayFrom 41 = .ok (.aaload, 1) := dk_50 (dk_at dksX3_wayFrom_1 19 rfl rfl)
theorem dX3_wayFrom_42 : decode cX3_wayFrom 42 = .ok (.iload_n 1, 1) := dk_27 (dk_at dksX3_wayFrom_1 20 rfl rfl)
theorem dX3_wayFrom_43 : decode cX3_wayFrom 43 = .ok (.iaload, 1) := dk_46 (dk_at dksX3_wayFrom_1 21 rfl rfl)
theorem dX3_wayFrom_44 : decode cX3_wayFrom 44 = .ok (.tableswitch 54 0 2 #[28, 40, 46], 28) := by decide +kernel
theorem dX3_wayFrom_72 : decode cX3_wayFrom 72 = .ok (.iload 6, 2) := dk_21 6 (dk_at dksX3_wayFrom_3 0 rfl rfl)
theorem dX3_wayFrom_74 : decode cX3_wayFrom 74 = .ok (.iload 6, 2) := dk_21 6 (dk_at dksX3_wayFrom_3 2 rfl rfl)
theorem dX3_wayFrom_76 : decode cX3_wayFrom 76 = .ok (.imul, 1) := dk_104 (dk_at dksX3_wayFrom_3 4 rfl rfl)
theorem dX3_wayFrom_77 : decode cX3_wayFrom 77 = .ok (.iload 7, 2) := dk_21 7 (dk_at dksX3_wayFrom_3 5 rfl rfl)
theorem dX3_wayFrom_79 : decode cX3_wayFrom 79 = .ok (.iload 7, 2) := dk_21 7 (dk_at dksX3_wayFrom_3 7 rfl rfl)
theorem dX3_wayFrom_81 : decode cX3_wayFrom 81 = .ok (.imul, 1) := dk_104 (dk_at dksX3_wayFrom_3 9 rfl rfl)
theorem dX3_wayFrom_82 : decode cX3_wayFrom 82 = .ok (.iadd, 1) := dk_96 (dk_at dksX3_wayFrom_3 10 rfl rfl)
theorem dX3_wayFrom_83 : decode cX3_wayFrom 83 = .ok (.ireturn, 1) := dk_172 (dk_at dksX3_wayFrom_3 11 rfl rfl)
theorem dX3_wayFrom_84 : decode cX3_wayFrom 84 = .ok (.iload 6, 2) := dk_21 6 (dk_at dksX3_wayFrom_3 12 rfl rfl)
theorem dX3_wayFrom_86 : decode cX3_wayFrom 86 = .ok (.iload 7, 2) := dk_21 7 (dk_at dksX3_wayFrom_3 14 rfl rfl)
theorem dX3_wayFrom_88 : decode cX3_wayFrom 88 = .ok (.iadd, 1) := dk_96 (dk_at dksX3_wayFrom_3 16 rfl rfl)
theorem dX3_wayFrom_89 : decode cX3_wayFrom 89 = .ok (.ireturn, 1) := dk_172 (dk_at dksX3_wayFrom_3 17 rfl rfl)
theorem dX3_wayFrom_90 : decode cX3_wayFrom 90 = .ok (.iload 6, 2) := dk_21 6 (dk_at dksX3_wayFrom_3 18 rfl rfl)
theorem dX3_wayFrom_92 : decode cX3_wayFrom 92 = .ok (.iload 7, 2) := dk_21 7 (dk_at dksX3_wayFrom_3 20 rfl rfl)
theorem dX3_wayFrom_94 : decode cX3_wayFrom 94 = .ok (.invokestatic 192, 3) := dk_184 0 192 (dk_at dksX3_wayFrom_4 0 rfl rfl)
theorem dX3_wayFrom_97 : decode cX3_wayFrom 97 = .ok (.ireturn, 1) := dk_172 (dk_at dksX3_wayFrom_4 3 rfl rfl)
theorem dX3_wayFrom_98 : decode cX3_wayFrom 98 = .ok (.iload 6, 2) := dk_21 6 (dk_at dksX3_wayFrom_4 4 rfl rfl)
theorem dX3_wayFrom_100 : decode cX3_wayFrom 100 = .ok (.ireturn, 1) := dk_172 (dk_at dksX3_wayFrom_4 6 rfl rfl)
def dkwX3_votes_1 : List UInt8 := [167, 0, 4, 2, 172]
abbrev dktX3_votes_1 : List UInt8 := dkwX3_votes_1 ++ []
def dkwX3_votes_0 : List UInt8 := [42, 27, 182, 0, 248, 153, 0, 20, 42, 28, 182, 0, 248, 153, 0, 12, 42, 27, 28, 182, 1, 24]
abbrev dktX3_votes_0 : List UInt8 := dkwX3_votes_0 ++ dktX3_votes_1
theorem dksX3_votes_0 : cX3_votes.data.toList.drop 0 = dktX3_votes_0 := by decide +kernel
theorem dksX3_votes_1 : cX3_votes.data.toList.drop 22 = dktX3_votes_1 := dk_seg dksX3_votes_0 22 rfl rfl
theorem dX3_votes_0 : decode cX3_votes 0 = .ok (.aload_n 0, 1) := dk_42 (dk_at dksX3_votes_0 0 rfl rfl)
theorem dX3_votes_1 : decode cX3_votes 1 = .ok (.iload_n 1, 1) := dk_27 (dk_at dksX3_votes_0 1 rfl rfl)
theorem dX3_votes_2 : decode cX3_votes 2 = .ok (.invokevirtual 248, 3) := dk_182 0 248 (dk_at dksX3_votes_0 2 rfl rfl)
theorem dX3_votes_5 : decode cX3_votes 5 = .ok (.ifCond .eq 20, 3) := dk_153 0 20 (dk_at dksX3_votes_0 5 rfl rfl)
theorem dX3_votes_8 : decode cX3_votes 8 = .ok (.aload_n 0, 1) := dk_42 (dk_at dksX3_votes_0 8 rfl rfl)
theorem dX3_votes_9 : decode cX3_votes 9 = .ok (.iload_n 2, 1) := dk_28 (dk_at dksX3_votes_0 9 rfl rfl)
theorem dX3_votes_10 : decode cX3_votes 10 = .ok (.invokevirtual 248, 3) := dk_182 0 248 (dk_at dksX3_votes_0 10 rfl rfl)
theorem dX3_votes_13 : decode cX3_votes 13 = .ok (.ifCond .eq 12, 3) := dk_153 0 12 (dk_at dksX3_votes_0 13 rfl rfl)
theorem dX3_votes_16 : decode cX3_votes 16 = .ok (.aload_n 0, 1) := dk_42 (dk_at dksX3_votes_0 16 rfl rfl)
theorem dX3_votes_17 : decode cX3_votes 17 = .ok (.iload_n 1, 1) := dk_27 (dk_at dksX3_votes_0 17 rfl rfl)
theorem dX3_votes_18 : decode cX3_votes 18 = .ok (.iload_n 2, 1) := dk_28 (dk_at dksX3_votes_0 18 rfl rfl)
theorem dX3_votes_19 : decode cX3_votes 19 = .ok (.invokevirtual 280, 3) := dk_182 1 24 (dk_at dksX3_votes_0 19 rfl rfl)
theorem dX3_votes_22 : decode cX3_votes 22 = .ok (.goto 4, 3) := dk_167 0 4 (dk_at dksX3_votes_1 0 rfl rfl)
theorem dX3_votes_25 : decode cX3_votes 25 = .ok (.iconst (-1), 1) := dk_2 (dk_at dksX3_votes_1 3 rfl rfl)
theorem dX3_votes_26 : decode cX3_votes 26 = .ok (.ireturn, 1) := dk_172 (dk_at dksX3_votes_1 4 rfl rfl)
def dkwX3_votesOf_1 : List UInt8 := [46, 42, 180, 0, 36, 3, 50, 28, 46, 182, 1, 13, 172]
abbrev dktX3_votesOf_1 : List UInt8 := dkwX3_votesOf_1 ++ []
def dkwX3_votesOf_0 : List UInt8 := [42, 42, 180, 0, 33, 3, 50, 27, 46, 42, 180, 0, 36, 3, 50, 27, 46, 42, 180, 0, 33, 3, 50, 28]
abbrev dktX3_votesOf_0 : List UInt8 := dkwX3_votesOf_0 ++ dktX3_votesOf_1
theorem dksX3_votesOf_0 : cX3_votesOf.data.toList.drop 0 = dktX3_votesOf_0 := by decide +kernel
theorem dksX3_votesOf_1 : cX3_votesOf.data.toList.drop 24 = dktX3_votesOf_1 := dk_seg dksX3_votesOf_0 24 rfl rfl
theorem dX3_votesOf_0 : decode cX3_votesOf 0 = .ok (.aload_n 0, 1) := dk_42 (dk_at dksX3_votesOf_0 0 rfl rfl)
theorem dX3_votesOf_1 : decode cX3_votesOf 1 = .ok (.aload_n 0, 1) := dk_42 (dk_at dksX3_votesOf_0 1 rfl rfl)
theorem dX3_votesOf_2 : decode cX3_votesOf 2 = .ok (.getfield 33, 3) := dk_180 0 33 (dk_at dksX3_votesOf_0 2 rfl rfl)
theorem dX3_votesOf_5 : decode cX3_votesOf 5 = .ok (.iconst 0, 1) := dk_3 (dk_at dksX3_votesOf_0 5 rfl rfl)
theorem dX3_votesOf_6 : decode cX3_votesOf 6 = .ok (.aaload, 1) := dk_50 (dk_at dksX3_votesOf_0 6 rfl rfl)
theorem dX3_votesOf_7 : decode cX3_votesOf 7 = .ok (.iload_n 1, 1) := dk_27 (dk_at dksX3_votesOf_0 7 rfl rfl)
theorem dX3_votesOf_8 : decode cX3_votesOf 8 = .ok (.iaload, 1) := dk_46 (dk_at dksX3_votesOf_0 8 rfl rfl)
theorem dX3_votesOf_9 : decode cX3_votesOf 9 = .ok (.aload_n 0, 1) := dk_42 (dk_at dksX3_votesOf_0 9 rfl rfl)
theorem dX3_votesOf_10 : decode cX3_votesOf 10 = .ok (.getfield 36, 3) := dk_180 0 36 (dk_at dksX3_votesOf_0 10 rfl rfl)
theorem dX3_votesOf_13 : decode cX3_votesOf 13 = .ok (.iconst 0, 1) := dk_3 (dk_at dksX3_votesOf_0 13 rfl rfl)
theorem dX3_votesOf_14 : decode cX3_votesOf 14 = .ok (.aaload, 1) := dk_50 (dk_at dksX3_votesOf_0 14 rfl rfl)
theorem dX3_votesOf_15 : decode cX3_votesOf 15 = .ok (.iload_n 1, 1) := dk_27 (dk_at dksX3_votesOf_0 15 rfl rfl)
theorem dX3_votesOf_16 : decode cX3_votesOf 16 = .ok (.iaload, 1) := dk_46 (dk_at dksX3_votesOf_0 16 rfl rfl)
theorem dX3_votesOf_17 : decode cX3_votesOf 17 = .ok (.aload_n 0, 1) := dk_42 (dk_at dksX3_votesOf_0 17 rfl rfl)
theorem dX3_votesOf_18 : decode cX3_votesOf 18 = .ok (.getfield 33, 3) := dk_180 0 33 (dk_at dksX3_votesOf_0 18 rfl rfl)
theorem dX3_votesOf_21 : decode cX3_votesOf 21 = .ok (.iconst 0, 1) := dk_3 (dk_at dksX3_votesOf_0 21 rfl rfl)
theorem dX3_votesOf_22 : decode cX3_votesOf 22 = .ok (.aaload, 1) := dk_50 (dk_at dksX3_votesOf_0 22 rfl rfl)
theorem dX3_votesOf_23 : decode cX3_votesOf 23 = .ok (.iload_n 2, 1) := dk_28 (dk_at dksX3_votesOf_0 23 rfl rfl)
theorem dX3_votesOf_24 : decode cX3_votesOf 24 = .ok (.iaload, 1) := dk_46 (dk_at dksX3_votesOf_1 0 rfl rfl)
theorem dX3_votesOf_25 : decode cX3_votesOf 25 = .ok (.aload_n 0, 1) := dk_42 (dk_at dksX3_votesOf_1 1 rfl rfl)
theorem dX3_votesOf_26 : decode cX3_votesOf 26 = .ok (.getfield 36, 3) := dk_180 0 36 (dk_at dksX3_votesOf_1 2 rfl rfl)
theorem dX3_votesOf_29 : decode cX3_votesOf 29 = .ok (.iconst 0, 1) := dk_3 (dk_at dksX3_votesOf_1 5 rfl rfl)
theorem dX3_votesOf_30 : decode cX3_votesOf 30 = .ok (.aaload, 1) := dk_50 (dk_at dksX3_votesOf_1 6 rfl rfl)
theorem dX3_votesOf_31 : decode cX3_votesOf 31 = .ok (.iload_n 2, 1) := dk_28 (dk_at dksX3_votesOf_1 7 rfl rfl)
theorem dX3_votesOf_32 : decode cX3_votesOf 32 = .ok (.iaload, 1) := dk_46 (dk_at dksX3_votesOf_1 8 rfl rfl)
theorem dX3_votesOf_33 : decode cX3_votesOf 33 = .ok (.invokevirtual 269, 3) := dk_182 1 13 (dk_at dksX3_votesOf_1 9 rfl rfl)
theorem dX3_votesOf_36 : decode cX3_votesOf 36 = .ok (.ireturn, 1) := dk_172 (dk_at dksX3_votesOf_1 12 rfl rfl)
def dkwX3_forOf_2 : List UInt8 := [54, 5, 132, 6, 1, 167, 255, 210, 21, 5, 172]
abbrev dktX3_forOf_2 : List UInt8 := dkwX3_forOf_2 ++ []
def dkwX3_forOf_1 : List UInt8 := [21, 6, 29, 21, 4, 182, 1, 6, 162, 0, 17, 21, 5, 42, 180, 0, 21, 3, 50, 21, 6, 46, 96]
abbrev dktX3_forOf_1 : List UInt8 := dkwX3_forOf_1 ++ dktX3_forOf_2
def dkwX3_forOf_0 : List UInt8 := [3, 54, 5, 3, 54, 6, 21, 6, 42, 182, 0, 237, 162, 0, 43, 42, 21, 6, 27, 28, 182, 1, 6, 42]
abbrev dktX3_forOf_0 : List UInt8 := dkwX3_forOf_0 ++ dktX3_forOf_1
theorem dksX3_forOf_0 : cX3_forOf.data.toList.drop 0 = dktX3_forOf_0 := by decide +kernel
theorem dksX3_forOf_1 : cX3_forOf.data.toList.drop 24 = dktX3_forOf_1 := dk_seg dksX3_forOf_0 24 rfl rfl
theorem dksX3_forOf_2 : cX3_forOf.data.toList.drop 47 = dktX3_forOf_2 := dk_seg dksX3_forOf_1 23 rfl rfl
theorem dX3_forOf_0 : decode cX3_forOf 0 = .ok (.iconst 0, 1) := dk_3 (dk_at dksX3_forOf_0 0 rfl rfl)
theorem dX3_forOf_1 : decode cX3_forOf 1 = .ok (.istore 5, 2) := dk_54 5 (dk_at dksX3_forOf_0 1 rfl rfl)
theorem dX3_forOf_3 : decode cX3_forOf 3 = .ok (.iconst 0, 1) := dk_3 (dk_at dksX3_forOf_0 3 rfl rfl)
theorem dX3_forOf_4 : decode cX3_forOf 4 = .ok (.istore 6, 2) := dk_54 6 (dk_at dksX3_forOf_0 4 rfl rfl)
theorem dX3_forOf_6 : decode cX3_forOf 6 = .ok (.iload 6, 2) := dk_21 6 (dk_at dksX3_forOf_0 6 rfl rfl)
theorem dX3_forOf_8 : decode cX3_forOf 8 = .ok (.aload_n 0, 1) := dk_42 (dk_at dksX3_forOf_0 8 rfl rfl)
theorem dX3_forOf_9 : decode cX3_forOf 9 = .ok (.invokevirtual 237, 3) := dk_182 0 237 (dk_at dksX3_forOf_0 9 rfl rfl)
theorem dX3_forOf_12 : decode cX3_forOf 12 = .ok (.if_icmp .ge 43, 3) := dk_162 0 43 (dk_at dksX3_forOf_0 12 rfl rfl)
theorem dX3_forOf_15 : decode cX3_forOf 15 = .ok (.aload_n 0, 1) := dk_42 (dk_at dksX3_forOf_0 15 rfl rfl)
theorem dX3_forOf_16 : decode cX3_forOf 16 = .ok (.iload 6, 2) := dk_21 6 (dk_at dksX3_forOf_0 16 rfl rfl)
theorem dX3_forOf_18 : decode cX3_forOf 18 = .ok (.iload_n 1, 1) := dk_27 (dk_at dksX3_forOf_0 18 rfl rfl)
theorem dX3_forOf_19 : decode cX3_forOf 19 = .ok (.iload_n 2, 1) := dk_28 (dk_at dksX3_forOf_0 19 rfl rfl)
theorem dX3_forOf_20 : decode cX3_forOf 20 = .ok (.invokevirtual 262, 3) := dk_182 1 6 (dk_at dksX3_forOf_0 20 rfl rfl)
theorem dX3_forOf_23 : decode cX3_forOf 23 = .ok (.aload_n 0, 1) := dk_42 (dk_at dksX3_forOf_0 23 rfl rfl)
theorem dX3_forOf_24 : decode cX3_forOf 24 = .ok (.iload 6, 2) := dk_21 6 (dk_at dksX3_forOf_1 0 rfl rfl)
theorem dX3_forOf_26 : decode cX3_forOf 26 = .ok (.iload_n 3, 1) := dk_29 (dk_at dksX3_forOf_1 2 rfl rfl)
theorem dX3_forOf_27 : decode cX3_forOf 27 = .ok (.iload 4, 2) := dk_21 4 (dk_at dksX3_forOf_1 3 rfl rfl)
theorem dX3_forOf_29 : decode cX3_forOf 29 = .ok (.invokevirtual 262, 3) := dk_182 1 6 (dk_at dksX3_forOf_1 5 rfl rfl)
theorem dX3_forOf_32 : decode cX3_forOf 32 = .ok (.if_icmp .ge 17, 3) := dk_162 0 17 (dk_at dksX3_forOf_1 8 rfl rfl)
theorem dX3_forOf_35 : decode cX3_forOf 35 = .ok (.iload 5, 2) := dk_21 5 (dk_at dksX3_forOf_1 11 rfl rfl)
theorem dX3_forOf_37 : decode cX3_forOf 37 = .ok (.aload_n 0, 1) := dk_42 (dk_at dksX3_forOf_1 13 rfl rfl)
theorem dX3_forOf_38 : decode cX3_forOf 38 = .ok (.getfield 21, 3) := dk_180 0 21 (dk_at dksX3_forOf_1 14 rfl rfl)
theorem dX3_forOf_41 : decode cX3_forOf 41 = .ok (.iconst 0, 1) := dk_3 (dk_at dksX3_forOf_1 17 rfl rfl)
theorem dX3_forOf_42 : decode cX3_forOf 42 = .ok (.aaload, 1) := dk_50 (dk_at dksX3_forOf_1 18 rfl rfl)
theorem dX3_forOf_43 : decode cX3_forOf 43 = .ok (.iload 6, 2) := dk_21 6 (dk_at dksX3_forOf_1 19 rfl rfl)
theorem dX3_forOf_45 : decode cX3_forOf 45 = .ok (.iaload, 1) := dk_46 (dk_at dksX3_forOf_1 21 rfl rfl)
theorem dX3_forOf_46 : decode cX3_forOf 46 = .ok (.iadd, 1) := dk_96 (dk_at dksX3_forOf_1 22 rfl rfl)
theorem dX3_forOf_47 : decode cX3_forOf 47 = .ok (.istore 5, 2) := dk_54 5 (dk_at dksX3_forOf_2 0 rfl rfl)
theorem dX3_forOf_49 : decode cX3_forOf 49 = .ok (.iinc 6 1, 3) := dk_132 6 1 (dk_at dksX3_forOf_2 2 rfl rfl)
theorem dX3_forOf_52 : decode cX3_forOf 52 = .ok (.goto (-46), 3) := dk_167 255 210 (dk_at dksX3_forOf_2 5 rfl rfl)
theorem dX3_forOf_55 : decode cX3_forOf 55 = .ok (.iload 5, 2) := dk_21 5 (dk_at dksX3_forOf_2 8 rfl rfl)
theorem dX3_forOf_57 : decode cX3_forOf 57 = .ok (.ireturn, 1) := dk_172 (dk_at dksX3_forOf_2 10 rfl rfl)
def dkwX3_beats_1 : List UInt8 := [153, 0, 7, 4, 167, 0, 4, 3, 172]
abbrev dktX3_beats_1 : List UInt8 := dkwX3_beats_1 ++ []
def dkwX3_beats_0 : List UInt8 := [42, 27, 182, 0, 248, 153, 0, 24, 42, 28, 182, 0, 248, 153, 0, 16, 42, 27, 28, 182, 1, 27]
abbrev dktX3_beats_0 : List UInt8 := dkwX3_beats_0 ++ dktX3_beats_1
theorem dksX3_beats_0 : cX3_beats.data.toList.drop 0 = dktX3_beats_0 := by decide +kernel
theorem dksX3_beats_1 : cX3_beats.data.toList.drop 22 = dktX3_beats_1 := dk_seg dksX3_beats_0 22 rfl rfl
theorem dX3_beats_0 : decode cX3_beats 0 = .ok (.aload_n 0, 1) := dk_42 (dk_at dksX3_beats_0 0 rfl rfl)
theorem dX3_beats_1 : decode cX3_beats 1 = .ok (.iload_n 1, 1) := dk_27 (dk_at dksX3_beats_0 1 rfl rfl)
theorem dX3_beats_2 : decode cX3_beats 2 = .ok (.invokevirtual 248, 3) := dk_182 0 248 (dk_at dksX3_beats_0 2 rfl rfl)
theorem dX3_beats_5 : decode cX3_beats 5 = .ok (.ifCond .eq 24, 3) := dk_153 0 24 (dk_at dksX3_beats_0 5 rfl rfl)
theorem dX3_beats_8 : decode cX3_beats 8 = .ok (.aload_n 0, 1) := dk_42 (dk_at dksX3_beats_0 8 rfl rfl)
theorem dX3_beats_9 : decode cX3_beats 9 = .ok (.iload_n 2, 1) := dk_28 (dk_at dksX3_beats_0 9 rfl rfl)
theorem dX3_beats_10 : decode cX3_beats 10 = .ok (.invokevirtual 248, 3) := dk_182 0 248 (dk_at dksX3_beats_0 10 rfl rfl)
theorem dX3_beats_13 : decode cX3_beats 13 = .ok (.ifCond .eq 16, 3) := dk_153 0 16 (dk_at dksX3_beats_0 13 rfl rfl)
theorem dX3_beats_16 : decode cX3_beats 16 = .ok (.aload_n 0, 1) := dk_42 (dk_at dksX3_beats_0 16 rfl rfl)
theorem dX3_beats_17 : decode cX3_beats 17 = .ok (.iload_n 1, 1) := dk_27 (dk_at dksX3_beats_0 17 rfl rfl)
theorem dX3_beats_18 : decode cX3_beats 18 = .ok (.iload_n 2, 1) := dk_28 (dk_at dksX3_beats_0 18 rfl rfl)
theorem dX3_beats_19 : decode cX3_beats 19 = .ok (.invokevirtual 283, 3) := dk_182 1 27 (dk_at dksX3_beats_0 19 rfl rfl)
theorem dX3_beats_22 : decode cX3_beats 22 = .ok (.ifCond .eq 7, 3) := dk_153 0 7 (dk_at dksX3_beats_1 0 rfl rfl)
theorem dX3_beats_25 : decode cX3_beats 25 = .ok (.iconst 1, 1) := dk_4 (dk_at dksX3_beats_1 3 rfl rfl)
theorem dX3_beats_26 : decode cX3_beats 26 = .ok (.goto 4, 3) := dk_167 0 4 (dk_at dksX3_beats_1 4 rfl rfl)
theorem dX3_beats_29 : decode cX3_beats 29 = .ok (.iconst 0, 1) := dk_3 (dk_at dksX3_beats_1 7 rfl rfl)
theorem dX3_beats_30 : decode cX3_beats 30 = .ok (.ireturn, 1) := dk_172 (dk_at dksX3_beats_1 8 rfl rfl)
def dkwX3_beatsOf_1 : List UInt8 := [46, 42, 180, 0, 36, 3, 50, 28, 46, 182, 1, 20, 172]
abbrev dktX3_beatsOf_1 : List UInt8 := dkwX3_beatsOf_1 ++ []
def dkwX3_beatsOf_0 : List UInt8 := [42, 42, 180, 0, 33, 3, 50, 27, 46, 42, 180, 0, 36, 3, 50, 27, 46, 42, 180, 0, 33, 3, 50, 28]
abbrev dktX3_beatsOf_0 : List UInt8 := dkwX3_beatsOf_0 ++ dktX3_beatsOf_1
theorem dksX3_beatsOf_0 : cX3_beatsOf.data.toList.drop 0 = dktX3_beatsOf_0 := by decide +kernel
theorem dksX3_beatsOf_1 : cX3_beatsOf.data.toList.drop 24 = dktX3_beatsOf_1 := dk_seg dksX3_beatsOf_0 24 rfl rfl
theorem dX3_beatsOf_0 : decode cX3_beatsOf 0 = .ok (.aload_n 0, 1) := dk_42 (dk_at dksX3_beatsOf_0 0 rfl rfl)
theorem dX3_beatsOf_1 : decode cX3_beatsOf 1 = .ok (.aload_n 0, 1) := dk_42 (dk_at dksX3_beatsOf_0 1 rfl rfl)
theorem dX3_beatsOf_2 : decode cX3_beatsOf 2 = .ok (.getfield 33, 3) := dk_180 0 33 (dk_at dksX3_beatsOf_0 2 rfl rfl)
theorem dX3_beatsOf_5 : decode cX3_beatsOf 5 = .ok (.iconst 0, 1) := dk_3 (dk_at dksX3_beatsOf_0 5 rfl rfl)
theorem dX3_beatsOf_6 : decode cX3_beatsOf 6 = .ok (.aaload, 1) := dk_50 (dk_at dksX3_beatsOf_0 6 rfl rfl)
theorem dX3_beatsOf_7 : decode cX3_beatsOf 7 = .ok (.iload_n 1, 1) := dk_27 (dk_at dksX3_beatsOf_0 7 rfl rfl)
theorem dX3_beatsOf_8 : decode cX3_beatsOf 8 = .ok (.iaload, 1) := dk_46 (dk_at dksX3_beatsOf_0 8 rfl rfl)
theorem dX3_beatsOf_9 : decode cX3_beatsOf 9 = .ok (.aload_n 0, 1) := dk_42 (dk_at dksX3_beatsOf_0 9 rfl rfl)
theorem dX3_beatsOf_10 : decode cX3_beatsOf 10 = .ok (.getfield 36, 3) := dk_180 0 36 (dk_at dksX3_beatsOf_0 10 rfl rfl)
theorem dX3_beatsOf_13 : decode cX3_beatsOf 13 = .ok (.iconst 0, 1) := dk_3 (dk_at dksX3_beatsOf_0 13 rfl rfl)
theorem dX3_beatsOf_14 : decode cX3_beatsOf 14 = .ok (.aaload, 1) := dk_50 (dk_at dksX3_beatsOf_0 14 rfl rfl)
theorem dX3_beatsOf_15 : decode cX3_beatsOf 15 = .ok (.iload_n 1, 1) := dk_27 (dk_at dksX3_beatsOf_0 15 rfl rfl)
theorem dX3_beatsOf_16 : decode cX3_beatsOf 16 = .ok (.iaload, 1) := dk_46 (dk_at dksX3_beatsOf_0 16 rfl rfl)
theorem dX3_beatsOf_17 : decode cX3_beatsOf 17 = .ok (.aload_n 0, 1) := dk_42 (dk_at dksX3_beatsOf_0 17 rfl rfl)
theorem dX3_beatsOf_18 : decode cX3_beatsOf 18 = .ok (.getfield 33, 3) := dk_180 0 33 (dk_at dksX3_beatsOf_0 18 rfl rfl)
theorem dX3_beatsOf_21 : decode cX3_beatsOf 21 = .ok (.iconst 0, 1) := dk_3 (dk_at dksX3_beatsOf_0 21 rfl rfl)
theorem dX3_beatsOf_22 : decode cX3_beatsOf 22 = .ok (.aaload, 1) := dk_50 (dk_at dksX3_beatsOf_0 22 rfl rfl)
theorem dX3_beatsOf_23 : decode cX3_beatsOf 23 = .ok (.iload_n 2, 1) := dk_28 (dk_at dksX3_beatsOf_0 23 rfl rfl)
theorem dX3_beatsOf_24 : decode cX3_beatsOf 24 = .ok (.iaload, 1) := dk_46 (dk_at dksX3_beatsOf_1 0 rfl rfl)
theorem dX3_beatsOf_25 : decode cX3_beatsOf 25 = .ok (.aload_n 0, 1) := dk_42 (dk_at dksX3_beatsOf_1 1 rfl rfl)
theorem dX3_beatsOf_26 : decode cX3_beatsOf 26 = .ok (.getfield 36, 3) := dk_180 0 36 (dk_at dksX3_beatsOf_1 2 rfl rfl)
theorem dX3_beatsOf_29 : decode cX3_beatsOf 29 = .ok (.iconst 0, 1) := dk_3 (dk_at dksX3_beatsOf_1 5 rfl rfl)
theorem dX3_beatsOf_30 : decode cX3_beatsOf 30 = .ok (.aaload, 1) := dk_50 (dk_at dksX3_beatsOf_1 6 rfl rfl)
theorem dX3_beatsOf_31 : decode cX3_beatsOf 31 = .ok (.iload_n 2, 1) := dk_28 (dk_at dksX3_beatsOf_1 7 rfl rfl)
theorem dX3_beatsOf_32 : decode cX3_beatsOf 32 = .ok (.iaload, 1) := dk_46 (dk_at dksX3_beatsOf_1 8 rfl rfl)
theorem dX3_beatsOf_33 : decode cX3_beatsOf 33 = .ok (.invokevirtual 276, 3) := dk_182 1 20 (dk_at dksX3_beatsOf_1 9 rfl rfl)
theorem dX3_beatsOf_36 : decode cX3_beatsOf 36 = .ok (.ireturn, 1) := dk_172 (dk_at dksX3_beatsOf_1 12 rfl rfl)
def dkwX3_beatsAt_0 : List UInt8 := [42, 42, 27, 28, 29, 21, 4, 182, 1, 13, 42, 29, 21, 4, 27, 28, 182, 1, 13, 182, 1, 17, 172]
abbrev dktX3_beatsAt_0 : List UInt8 := dkwX3_beatsAt_0 ++ []
theorem dksX3_beatsAt_0 : cX3_beatsAt.data.toList.drop 0 = dktX3_beatsAt_0 := by decide +kernel
theorem dX3_beatsAt_0 : decode cX3_beatsAt 0 = .ok (.aload_n 0, 1) := dk_42 (dk_at dksX3_beatsAt_0 0 rfl rfl)
theorem dX3_beatsAt_1 : decode cX3_beatsAt 1 = .ok (.aload_n 0, 1) := dk_42 (dk_at dksX3_beatsAt_0 1 rfl rfl)
theorem dX3_beatsAt_2 : decode cX3_beatsAt 2 = .ok (.iload_n 1, 1) := dk_27 (dk_at dksX3_beatsAt_0 2 rfl rfl)
theorem dX3_beatsAt_3 : decode cX3_beatsAt 3 = .ok (.iload_n 2, 1) := dk_28 (dk_at dksX3_beatsAt_0 3 rfl rfl)
theorem dX3_beatsAt_4 : decode cX3_beatsAt 4 = .ok (.iload_n 3, 1) := dk_29 (dk_at dksX3_beatsAt_0 4 rfl rfl)
theorem dX3_beatsAt_5 : decode cX3_beatsAt 5 = .ok (.iload 4, 2) := dk_21 4 (dk_at dksX3_beatsAt_0 5 rfl rfl)
theorem dX3_beatsAt_7 : decode cX3_beatsAt 7 = .ok (.invokevirtual 269, 3) := dk_182 1 13 (dk_at dksX3_beatsAt_0 7 rfl rfl)
theorem dX3_beatsAt_10 : decode cX3_beatsAt 10 = .ok (.aload_n 0, 1) := dk_42 (dk_at dksX3_beatsAt_0 10 rfl rfl)
theorem dX3_beatsAt_11 : decode cX3_beatsAt 11 = .ok (.iload_n 3, 1) := dk_29 (dk_at dksX3_beatsAt_0 11 rfl rfl)
theorem dX3_beatsAt_12 : decode cX3_beatsAt 12 = .ok (.iload 4, 2) := dk_21 4 (dk_at dksX3_beatsAt_0 12 rfl rfl)
theorem dX3_beatsAt_14 : decode cX3_beatsAt 14 = .ok (.iload_n 1, 1) := dk_27 (dk_at dksX3_beatsAt_0 14 rfl rfl)
theorem dX3_beatsAt_15 : decode cX3_beatsAt 15 = .ok (.iload_n 2, 1) := dk_28 (dk_at dksX3_beatsAt_0 15 rfl rfl)
theorem dX3_beatsAt_16 : decode cX3_beatsAt 16 = .ok (.invokevirtual 269, 3) := dk_182 1 13 (dk_at dksX3_beatsAt_0 16 rfl rfl)
theorem dX3_beatsAt_19 : decode cX3_beatsAt 19 = .ok (.invokevirtual 273, 3) := dk_182 1 17 (dk_at dksX3_beatsAt_0 19 rfl rfl)
theorem dX3_beatsAt_22 : decode cX3_beatsAt 22 = .ok (.ireturn, 1) := dk_172 (dk_at dksX3_beatsAt_0 22 rfl rfl)
def dkwX3_isWon_3 : List UInt8 := [161, 0, 12, 27, 28, 164, 0, 7, 4, 167, 0, 4, 3, 172]
abbrev dktX3_isWon_3 : List UInt8 := dkwX3_isWon_3 ++ []
def dkwX3_isWon_2 : List UInt8 := [46, 104, 29, 164, 0, 7, 4, 167, 0, 29, 3, 167, 0, 25, 27, 42, 180, 0, 52, 3, 46, 104, 29]
abbrev dktX3_isWon_2 : List UInt8 := dkwX3_isWon_2 ++ dktX3_isWon_3
def dkwX3_isWon_1 : List UInt8 := [3, 46, 42, 182, 1, 10, 104, 62, 42, 180, 0, 46, 3, 46, 4, 160, 0, 23, 27, 42, 180, 0, 52, 3]
abbrev dktX3_isWon_1 : List UInt8 := dkwX3_isWon_1 ++ dktX3_isWon_2
def dkwX3_isWon_0 : List UInt8 := [42, 180, 0, 46, 3, 46, 154, 0, 14, 27, 28, 164, 0, 7, 4, 167, 0, 4, 3, 172, 42, 180, 0, 49]
abbrev dktX3_isWon_0 : List UInt8 := dkwX3_isWon_0 ++ dktX3_isWon_1
theorem dksX3_isWon_0 : cX3_isWon.data.toList.drop 0 = dktX3_isWon_0 := by decide +kernel
theorem dksX3_isWon_1 : cX3_isWon.data.toList.drop 24 = dktX3_isWon_1 := dk_seg dksX3_isWon_0 24 rfl rfl
theorem dksX3_isWon_2 : cX3_isWon.data.toList.drop 48 = dktX3_isWon_2 := dk_seg dksX3_isWon_1 24 rfl rfl
theorem dksX3_isWon_3 : cX3_isWon.data.toList.drop 71 = dktX3_isWon_3 := dk_seg dksX3_isWon_2 23 rfl rfl
theorem dX3_isWon_0 : decode cX3_isWon 0 = .ok (.aload_n 0, 1) := dk_42 (dk_at dksX3_isWon_0 0 rfl rfl)
theorem dX3_isWon_1 : decode cX3_isWon 1 = .ok (.getfield 46, 3) := dk_180 0 46 (dk_at dksX3_isWon_0 1 rfl rfl)
theorem dX3_isWon_4 : decode cX3_isWon 4 = .ok (.iconst 0, 1) := dk_3 (dk_at dksX3_isWon_0 4 rfl rfl)
theorem dX3_isWon_5 : decode cX3_isWon 5 = .ok (.iaload, 1) := dk_46 (dk_at dksX3_isWon_0 5 rfl rfl)
theorem dX3_isWon_6 : decode cX3_isWon 6 = .ok (.ifCond .ne 14, 3) := dk_154 0 14 (dk_at dksX3_isWon_0 6 rfl rfl)
theorem dX3_isWon_9 : decode cX3_isWon 9 = .ok (.iload_n 1, 1) := dk_27 (dk_at dksX3_isWon_0 9 rfl rfl)
theorem dX3_isWon_10 : decode cX3_isWon 10 = .ok (.iload_n 2, 1) := dk_28 (dk_at dksX3_isWon_0 10 rfl rfl)
theorem dX3_isWon_11 : decode cX3_isWon 11 = .ok (.if_icmp .le 7, 3) := dk_164 0 7 (dk_at dksX3_isWon_0 11 rfl rfl)
theorem dX3_isWon_14 : decode cX3_isWon 14 = .ok (.iconst 1, 1) := dk_4 (dk_at dksX3_isWon_0 14 rfl rfl)
theorem dX3_isWon_15 : decode cX3_isWon 15 = .ok (.goto 4, 3) := dk_167 0 4 (dk_at dksX3_isWon_0 15 rfl rfl)
theorem dX3_isWon_18 : decode cX3_isWon 18 = .ok (.iconst 0, 1) := dk_3 (dk_at dksX3_isWon_0 18 rfl rfl)
theorem dX3_isWon_19 : decode cX3_isWon 19 = .ok (.ireturn, 1) := dk_172 (dk_at dksX3_isWon_0 19 rfl rfl)
theorem dX3_isWon_20 : decode cX3_isWon 20 = .ok (.aload_n 0, 1) := dk_42 (dk_at dksX3_isWon_0 20 rfl rfl)
theorem dX3_isWon_21 : decode cX3_isWon 21 = .ok (.getfield 49, 3) := dk_180 0 49 (dk_at dksX3_isWon_0 21 rfl rfl)
theorem dX3_isWon_24 : decode cX3_isWon 24 = .ok (.iconst 0, 1) := dk_3 (dk_at dksX3_isWon_1 0 rfl rfl)
theorem dX3_isWon_25 : decode cX3_isWon 25 = .ok (.iaload, 1) := dk_46 (dk_at dksX3_isWon_1 1 rfl rfl)
theorem dX3_isWon_26 : decode cX3_isWon 26 = .ok (.aload_n 0, 1) := dk_42 (dk_at dksX3_isWon_1 2 rfl rfl)
theorem dX3_isWon_27 : decode cX3_isWon 27 = .ok (.invokevirtual 266, 3) := dk_182 1 10 (dk_at dksX3_isWon_1 3 rfl rfl)
theorem dX3_isWon_30 : decode cX3_isWon 30 = .ok (.imul, 1) := dk_104 (dk_at dksX3_isWon_1 6 rfl rfl)
theorem dX3_isWon_31 : decode cX3_isWon 31 = .ok (.istore_n 3, 1) := dk_62 (dk_at dksX3_isWon_1 7 rfl rfl)
theorem dX3_isWon_32 : decode cX3_isWon 32 = .ok (.aload_n 0, 1) := dk_42 (dk_at dksX3_isWon_1 8 rfl rfl)
theorem dX3_isWon_33 : decode cX3_isWon 33 = .ok (.getfield 46, 3) := dk_180 0 46 (dk_at dksX3_isWon_1 9 rfl rfl)
theorem dX3_isWon_36 : decode cX3_isWon 36 = .ok (.iconst 0, 1) := dk_3 (dk_at dksX3_isWon_1 12 rfl rfl)
theorem dX3_isWon_37 : decode cX3_isWon 37 = .ok (.iaload, 1) := dk_46 (dk_at dksX3_isWon_1 13 rfl rfl)
theorem dX3_isWon_38 : decode cX3_isWon 38 = .ok (.iconst 1, 1) := dk_4 (dk_at dksX3_isWon_1 14 rfl rfl)
theorem dX3_isWon_39 : decode cX3_isWon 39 = .ok (.if_icmp .ne 23, 3) := dk_160 0 23 (dk_at dksX3_isWon_1 15 rfl rfl)
theorem dX3_isWon_42 : decode cX3_isWon 42 = .ok (.iload_n 1, 1) := dk_27 (dk_at dksX3_isWon_1 18 rfl rfl)
theorem dX3_isWon_43 : decode cX3_isWon 43 = .ok (.aload_n 0, 1) := dk_42 (dk_at dksX3_isWon_1 19 rfl rfl)
theorem dX3_isWon_44 : decode cX3_isWon 44 = .ok (.getfield 52, 3) := dk_180 0 52 (dk_at dksX3_isWon_1 20 rfl rfl)
theorem dX3_isWon_47 : decode cX3_isWon 47 = .ok (.iconst 0, 1) := dk_3 (dk_at dksX3_isWon_1 23 rfl rfl)
theorem dX3_isWon_48 : decode cX3_isWon 48 = .ok (.iaload, 1) := dk_46 (dk_at dksX3_isWon_2 0 rfl rfl)
theorem dX3_isWon_49 : decode cX3_isWon 49 = .ok (.imul, 1) := dk_104 (dk_at dksX3_isWon_2 1 rfl rfl)
theorem dX3_isWon_50 : decode cX3_isWon 50 = .ok (.iload_n 3, 1) := dk_29 (dk_at dksX3_isWon_2 2 rfl rfl)
theorem dX3_isWon_51 : decode cX3_isWon 51 = .ok (.if_icmp .le 7, 3) := dk_164 0 7 (dk_at dksX3_isWon_2 3 rfl rfl)
theorem dX3_isWon_54 : decode cX3_isWon 54 = .ok (.iconst 1, 1) := dk_4 (dk_at dksX3_isWon_2 6 rfl rfl)
theorem dX3_isWon_55 : decode cX3_isWon 55 = .ok (.goto 29, 3) := dk_167 0 29 (dk_at dksX3_isWon_2 7 rfl rfl)
theorem dX3_isWon_58 : decode cX3_isWon 58 = .ok (.iconst 0, 1) := dk_3 (dk_at dksX3_isWon_2 10 rfl rfl)
theorem dX3_isWon_59 : decode cX3_isWon 59 = .ok (.goto 25, 3) := dk_167 0 25 (dk_at dksX3_isWon_2 11 rfl rfl)
theorem dX3_isWon_62 : decode cX3_isWon 62 = .ok (.iload_n 1, 1) := dk_27 (dk_at dksX3_isWon_2 14 rfl rfl)
theorem dX3_isWon_63 : decode cX3_isWon 63 = .ok (.aload_n 0, 1) := dk_42 (dk_at dksX3_isWon_2 15 rfl rfl)
theorem dX3_isWon_64 : decode cX3_isWon 64 = .ok (.getfield 52, 3) := dk_180 0 52 (dk_at dksX3_isWon_2 16 rfl rfl)
theorem dX3_isWon_67 : decode cX3_isWon 67 = .ok (.iconst 0, 1) := dk_3 (dk_at dksX3_isWon_2 19 rfl rfl)
theorem dX3_isWon_68 : decode cX3_isWon 68 = .ok (.iaload, 1) := dk_46 (dk_at dksX3_isWon_2 20 rfl rfl)
theorem dX3_isWon_69 : decode cX3_isWon 69 = .ok (.imul, 1) := dk_104 (dk_at dksX3_isWon_2 21 rfl rfl)
theorem dX3_isWon_70 : decode cX3_isWon 70 = .ok (.iload_n 3, 1) := dk_29 (dk_at dksX3_isWon_2 22 rfl rfl)
theorem dX3_isWon_71 : decode cX3_isWon 71 = .ok (.if_icmp .lt 12, 3) := dk_161 0 12 (dk_at dksX3_isWon_3 0 rfl rfl)
theorem dX3_isWon_74 : decode cX3_isWon 74 = .ok (.iload_n 1, 1) := dk_27 (dk_at dksX3_isWon_3 3 rfl rfl)
theorem dX3_isWon_75 : decode cX3_isWon 75 = .ok (.iload_n 2, 1) := dk_28 (dk_at dksX3_isWon_3 4 rfl rfl)
theorem dX3_isWon_76 : decode cX3_isWon 76 = .ok (.if_icmp .le 7, 3) := dk_164 0 7 (dk_at dksX3_isWon_3 5 rfl rfl)
theorem dX3_isWon_79 : decode cX3_isWon 79 = .ok (.iconst 1, 1) := dk_4 (dk_at dksX3_isWon_3 8 rfl rfl)
theorem dX3_isWon_80 : decode cX3_isWon 80 = .ok (.goto 4, 3) := dk_167 0 4 (dk_at dksX3_isWon_3 9 rfl rfl)
theorem dX3_isWon_83 : decode cX3_isWon 83 = .ok (.iconst 0, 1) := dk_3 (dk_at dksX3_isWon_3 12 rfl rfl)
theorem dX3_isWon_84 : decode cX3_isWon 84 = .ok (.ireturn, 1) := dk_172 (dk_at dksX3_isWon_3 13 rfl rfl)
def dkwX3_total_1 : List UInt8 := [132, 2, 1, 167, 255, 234, 27, 172]
abbrev dktX3_total_1 : List UInt8 := dkwX3_total_1 ++ []
def dkwX3_total_0 : List UInt8 := [3, 60, 3, 61, 28, 42, 182, 0, 237, 162, 0, 20, 27, 42, 180, 0, 21, 3, 50, 28, 46, 96, 60]
abbrev dktX3_total_0 : List UInt8 := dkwX3_total_0 ++ dktX3_total_1
theorem dksX3_total_0 : cX3_total.data.toList.drop 0 = dktX3_total_0 := by decide +kernel
theorem dksX3_total_1 : cX3_total.data.toList.drop 23 = dktX3_total_1 := dk_seg dksX3_total_0 23 rfl rfl
theorem dX3_total_0 : decode cX3_total 0 = .ok (.iconst 0, 1) := dk_3 (dk_at dksX3_total_0 0 rfl rfl)
theorem dX3_total_1 : decode cX3_total 1 = .ok (.istore_n 1, 1) := dk_60 (dk_at dksX3_total_0 1 rfl rfl)
theorem dX3_total_2 : decode cX3_total 2 = .ok (.iconst 0, 1) := dk_3 (dk_at dksX3_total_0 2 rfl rfl)
theorem dX3_total_3 : decode cX3_total 3 = .ok (.istore_n 2, 1) := dk_61 (dk_at dksX3_total_0 3 rfl rfl)
theorem dX3_total_4 : decode cX3_total 4 = .ok (.iload_n 2, 1) := dk_28 (dk_at dksX3_total_0 4 rfl rfl)
theorem dX3_total_5 : decode cX3_total 5 = .ok (.aload_n 0, 1) := dk_42 (dk_at dksX3_total_0 5 rfl rfl)
theorem dX3_total_6 : decode cX3_total 6 = .ok (.invokevirtual 237, 3) := dk_182 0 237 (dk_at dksX3_total_0 6 rfl rfl)
theorem dX3_total_9 : decode cX3_total 9 = .ok (.if_icmp .ge 20, 3) := dk_162 0 20 (dk_at dksX3_total_0 9 rfl rfl)
theorem dX3_total_12 : decode cX3_total 12 = .ok (.iload_n 1, 1) := dk_27 (dk_at dksX3_total_0 12 rfl rfl)
theorem dX3_total_13 : decode cX3_total 13 = .ok (.aload_n 0, 1) := dk_42 (dk_at dksX3_total_0 13 rfl rfl)
theorem dX3_total_14 : decode cX3_total 14 = .ok (.getfield 21, 3) := dk_180 0 21 (dk_at dksX3_total_0 14 rfl rfl)
theorem dX3_total_17 : decode cX3_total 17 = .ok (.iconst 0, 1) := dk_3 (dk_at dksX3_total_0 17 rfl rfl)
theorem dX3_total_18 : decode cX3_total 18 = .ok (.aaload, 1) := dk_50 (dk_at dksX3_total_0 18 rfl rfl)
theorem dX3_total_19 : decode cX3_total 19 = .ok (.iload_n 2, 1) := dk_28 (dk_at dksX3_total_0 19 rfl rfl)
theorem dX3_total_20 : decode cX3_total 20 = .ok (.iaload, 1) := dk_46 (dk_at dksX3_total_0 20 rfl rfl)
theorem dX3_total_21 : decode cX3_total 21 = .ok (.iadd, 1) := dk_96 (dk_at dksX3_total_0 21 rfl rfl)
theorem dX3_total_22 : decode cX3_total 22 = .ok (.istore_n 1, 1) := dk_60 (dk_at dksX3_total_0 22 rfl rfl)
theorem dX3_total_23 : decode cX3_total 23 = .ok (.iinc 2 1, 3) := dk_132 2 1 (dk_at dksX3_total_1 0 rfl rfl)
theorem dX3_total_26 : decode cX3_total 26 = .ok (.goto (-22), 3) := dk_167 255 234 (dk_at dksX3_total_1 3 rfl rfl)
theorem dX3_total_29 : decode cX3_total 29 = .ok (.iload_n 1, 1) := dk_27 (dk_at dksX3_total_1 6 rfl rfl)
theorem dX3_total_30 : decode cX3_total 30 = .ok (.ireturn, 1) := dk_172 (dk_at dksX3_total_1 7 rfl rfl)
def dkwX3_wins_2 : List UInt8 := [28, 16, 100, 112, 182, 1, 20, 172]
abbrev dktX3_wins_2 : List UInt8 := dkwX3_wins_2 ++ []
def dkwX3_wins_1 : List UInt8 := [20, 1, 30, 184, 0, 122, 154, 0, 5, 3, 172, 42, 27, 16, 100, 108, 27, 16, 100, 112, 28, 16, 100, 108]
abbrev dktX3_wins_1 : List UInt8 := dkwX3_wins_1 ++ dktX3_wins_2
def dkwX3_wins_0 : List UInt8 := [42, 182, 0, 237, 153, 0, 27, 27, 133, 9, 20, 1, 30, 184, 0, 122, 153, 0, 15, 28, 133, 9]
abbrev dktX3_wins_0 : List UInt8 := dkwX3_wins_0 ++ dktX3_wins_1
theorem dksX3_wins_0 : cX3_wins.data.toList.drop 0 = dktX3_wins_0 := by decide +kernel
theorem dksX3_wins_1 : cX3_wins.data.toList.drop 22 = dktX3_wins_1 := dk_seg dksX3_wins_0 22 rfl rfl
theorem dksX3_wins_2 : cX3_wins.data.toList.drop 46 = dktX3_wins_2 := dk_seg dksX3_wins_1 24 rfl rfl
theorem dX3_wins_0 : decode cX3_wins 0 = .ok (.aload_n 0, 1) := dk_42 (dk_at dksX3_wins_0 0 rfl rfl)
theorem dX3_wins_1 : decode cX3_wins 1 = .ok (.invokevirtual 237, 3) := dk_182 0 237 (dk_at dksX3_wins_0 1 rfl rfl)
theorem dX3_wins_4 : decode cX3_wins 4 = .ok (.ifCond .eq 27, 3) := dk_153 0 27 (dk_at dksX3_wins_0 4 rfl rfl)
theorem dX3_wins_7 : decode cX3_wins 7 = .ok (.iload_n 1, 1) := dk_27 (dk_at dksX3_wins_0 7 rfl rfl)
theorem dX3_wins_8 : decode cX3_wins 8 = .ok (.i2l, 1) := dk_133 (dk_at dksX3_wins_0 8 rfl rfl)
theorem dX3_wins_9 : decode cX3_wins 9 = .ok (.lconst 0, 1) := dk_9 (dk_at dksX3_wins_0 9 rfl rfl)
theorem dX3_wins_10 : decode cX3_wins 10 = .ok (.ldc2_w 286, 3) := dk_20 1 30 (dk_at dksX3_wins_0 10 rfl rfl)
theorem dX3_wins_13 : decode cX3_wins 13 = .ok (.invokestatic 122, 3) := dk_184 0 122 (dk_at dksX3_wins_0 13 rfl rfl)
theorem dX3_wins_16 : decode cX3_wins 16 = .ok (.ifCond .eq 15, 3) := dk_153 0 15 (dk_at dksX3_wins_0 16 rfl rfl)
theorem dX3_wins_19 : decode cX3_wins 19 = .ok (.iload_n 2, 1) := dk_28 (dk_at dksX3_wins_0 19 rfl rfl)
theorem dX3_wins_20 : decode cX3_wins 20 = .ok (.i2l, 1) := dk_133 (dk_at dksX3_wins_0 20 rfl rfl)
theorem dX3_wins_21 : decode cX3_wins 21 = .ok (.lconst 0, 1) := dk_9 (dk_at dksX3_wins_0 21 rfl rfl)
theorem dX3_wins_22 : decode cX3_wins 22 = .ok (.ldc2_w 286, 3) := dk_20 1 30 (dk_at dksX3_wins_1 0 rfl rfl)
theorem dX3_wins_25 : decode cX3_wins 25 = .ok (.invokestatic 122, 3) := dk_184 0 122 (dk_at dksX3_wins_1 3 rfl rfl)
theorem dX3_wins_28 : decode cX3_wins 28 = .ok (.ifCond .ne 5, 3) := dk_154 0 5 (dk_at dksX3_wins_1 6 rfl rfl)
theorem dX3_wins_31 : decode cX3_wins 31 = .ok (.iconst 0, 1) := dk_3 (dk_at dksX3_wins_1 9 rfl rfl)
theorem dX3_wins_32 : decode cX3_wins 32 = .ok (.ireturn, 1) := dk_172 (dk_at dksX3_wins_1 10 rfl rfl)
theorem dX3_wins_33 : decode cX3_wins 33 = .ok (.aload_n 0, 1) := dk_42 (dk_at dksX3_wins_1 11 rfl rfl)
theorem dX3_wins_34 : decode cX3_wins 34 = .ok (.iload_n 1, 1) := dk_27 (dk_at dksX3_wins_1 12 rfl rfl)
theorem dX3_wins_35 : decode cX3_wins 35 = .ok (.bipush 100, 2) := dk_16 100 (dk_at dksX3_wins_1 13 rfl rfl)
theorem dX3_wins_37 : decode cX3_wins 37 = .ok (.idiv, 1) := dk_108 (dk_at dksX3_wins_1 15 rfl rfl)
theorem dX3_wins_38 : decode cX3_wins 38 = .ok (.iload_n 1, 1) := dk_27 (dk_at dksX3_wins_1 16 rfl rfl)
theorem dX3_wins_39 : decode cX3_wins 39 = .ok (.bipush 100, 2) := dk_16 100 (dk_at dksX3_wins_1 17 rfl rfl)
theorem dX3_wins_41 : decode cX3_wins 41 = .ok (.irem, 1) := dk_112 (dk_at dksX3_wins_1 19 rfl rfl)
theorem dX3_wins_42 : decode cX3_wins 42 = .ok (.iload_n 2, 1) := dk_28 (dk_at dksX3_wins_1 20 rfl rfl)
theorem dX3_wins_43 : decode cX3_wins 43 = .ok (.bipush 100, 2) := dk_16 100 (dk_at dksX3_wins_1 21 rfl rfl)
theorem dX3_wins_45 : decode cX3_wins 45 = .ok (.idiv, 1) := dk_108 (dk_at dksX3_wins_1 23 rfl rfl)
theorem dX3_wins_46 : decode cX3_wins 46 = .ok (.iload_n 2, 1) := dk_28 (dk_at dksX3_wins_2 0 rfl rfl)
theorem dX3_wins_47 : decode cX3_wins 47 = .ok (.bipush 100, 2) := dk_16 100 (dk_at dksX3_wins_2 1 rfl rfl)
theorem dX3_wins_49 : decode cX3_wins 49 = .ok (.irem, 1) := dk_112 (dk_at dksX3_wins_2 3 rfl rfl)
theorem dX3_wins_50 : decode cX3_wins 50 = .ok (.invokevirtual 276, 3) := dk_182 1 20 (dk_at dksX3_wins_2 4 rfl rfl)
theorem dX3_wins_53 : decode cX3_wins 53 = .ok (.ireturn, 1) := dk_172 (dk_at dksX3_wins_2 7 rfl rfl)
def dkwX3_line_4 : List UInt8 := [172]
abbrev dktX3_line_4 : List UInt8 := dkwX3_line_4 ++ []
def dkwX3_line_3 : List UInt8 := [42, 180, 0, 69, 27, 46, 172, 42, 180, 0, 72, 27, 46, 172, 42, 180, 0, 75, 27, 46, 172, 19, 1, 60]
abbrev dktX3_line_3 : List UInt8 := dkwX3_line_3 ++ dktX3_line_4
def dkwX3_line_2 : List UInt8 := [170, 0, 0, 0, 46, 0, 0, 0, 0, 0, 0, 0, 2, 0, 0, 0, 25, 0, 0, 0, 32, 0, 0, 0, 39]
abbrev dktX3_line_2 : List UInt8 := dkwX3_line_2 ++ dktX3_line_3
def dkwX3_line_1 : List UInt8 := [184, 0, 122, 154, 0, 7, 19, 1, 60, 172, 28]
abbrev dktX3_line_1 : List UInt8 := dkwX3_line_1 ++ dktX3_line_2
def dkwX3_line_0 : List UInt8 := [42, 182, 1, 57, 27, 2, 160, 0, 8, 42, 180, 1, 32, 172, 27, 133, 9, 42, 180, 1, 32, 4, 100, 133]
abbrev dktX3_line_0 : List UInt8 := dkwX3_line_0 ++ dktX3_line_1
theorem dksX3_line_0 : cX3_line.data.toList.drop 0 = dktX3_line_0 := by decide +kernel
theorem dksX3_line_1 : cX3_line.data.toList.drop 24 = dktX3_line_1 := dk_seg dksX3_line_0 24 rfl rfl
theorem dksX3_line_2 : cX3_line.data.toList.drop 35 = dktX3_line_2 := dk_seg dksX3_line_1 11 rfl rfl
theorem dksX3_line_3 : cX3_line.data.toList.drop 60 = dktX3_line_3 := dk_seg dksX3_line_2 25 rfl rfl
theorem dksX3_line_4 : cX3_line.data.toList.drop 84 = dktX3_line_4 := dk_seg dksX3_line_3 24 rfl rfl
theorem dX3_line_0 : decode cX3_line 0 = .ok (.aload_n 0, 1) := dk_42 (dk_at dksX3_line_0 0 rfl rfl)
theorem dX3_line_1 : decode cX3_line 1 = .ok (.invokevirtual 313, 3) := dk_182 1 57 (dk_at dksX3_line_0 1 rfl rfl)
theorem dX3_line_4 : decode cX3_line 4 = .ok (.iload_n 1, 1) := dk_27 (dk_at dksX3_line_0 4 rfl rfl)
theorem dX3_line_5 : decode cX3_line 5 = .ok (.iconst (-1), 1) := dk_2 (dk_at dksX3_line_0 5 rfl rfl)
theorem dX3_line_6 : decode cX3_line 6 = .ok (.if_icmp .ne 8, 3) := dk_160 0 8 (dk_at dksX3_line_0 6 rfl rfl)
theorem dX3_line_9 : decode cX3_line 9 = .ok (.aload_n 0, 1) := dk_42 (dk_at dksX3_line_0 9 rfl rfl)
theorem dX3_line_10 : decode cX3_line 10 = .ok (.getfield 288, 3) := dk_180 1 32 (dk_at dksX3_line_0 10 rfl rfl)
theorem dX3_line_13 : decode cX3_line 13 = .ok (.ireturn, 1) := dk_172 (dk_at dksX3_line_0 13 rfl rfl)
theorem dX3_line_14 : decode cX3_line 14 = .ok (.iload_n 1, 1) := dk_27 (dk_at dksX3_line_0 14 rfl rfl)
theorem dX3_line_15 : decode cX3_line 15 = .ok (.i2l, 1) := dk_133 (dk_at dksX3_line_0 15 rfl rfl)
theorem dX3_line_16 : decode cX3_line 16 = .ok (.lconst 0, 1) := dk_9 (dk_at dksX3_line_0 16 rfl rfl)
theorem dX3_line_17 : decode cX3_line 17 = .ok (.aload_n 0, 1) := dk_42 (dk_at dksX3_line_0 17 rfl rfl)
theorem dX3_line_18 : decode cX3_line 18 = .ok (.getfield 288, 3) := dk_180 1 32 (dk_at dksX3_line_0 18 rfl rfl)
theorem dX3_line_21 : decode cX3_line 21 = .ok (.iconst 1, 1) := dk_4 (dk_at dksX3_line_0 21 rfl rfl)
theorem dX3_line_22 : decode cX3_line 22 = .ok (.isub, 1) := dk_100 (dk_at dksX3_line_0 22 rfl rfl)
theorem dX3_line_23 : decode cX3_line 23 = .ok (.i2l, 1) := dk_133 (dk_at dksX3_line_0 23 rfl rfl)
theorem dX3_line_24 : decode cX3_line 24 = .ok (.invokestatic 122, 3) := dk_184 0 122 (dk_at dksX3_line_1 0 rfl rfl)
theorem dX3_line_27 : decode cX3_line 27 = .ok (.ifCond .ne 7, 3) := dk_154 0 7 (dk_at dksX3_line_1 3 rfl rfl)
theorem dX3_line_30 : decode cX3_line 30 = .ok (.ldc_w 316, 3) := dk_19 1 60 (dk_at dksX3_line_1 6 rfl rfl)
theorem dX3_line_33 : decode cX3_line 33 = .ok (.ireturn, 1) := dk_172 (dk_at dksX3_line_1 9 rfl rfl)
theorem dX3_line_34 : decode cX3_line 34 = .ok (.iload_n 2, 1) := dk_28 (dk_at dksX3_line_1 10 rfl rfl)
theorem dX3_line_35 : decode cX3_line 35 = .ok (.tableswitch 46 0 2 #[25, 32, 39], 25) := by decide +kernel
theorem dX3_line_60 : decode cX3_line 60 = .ok (.aload_n 0, 1) := dk_42 (dk_at dksX3_line_3 0 rfl rfl)
theorem dX3_line_61 : decode cX3_line 61 = .ok (.getfield 69, 3) := dk_180 0 69 (dk_at dksX3_line_3 1 rfl rfl)
theorem dX3_line_64 : decode cX3_line 64 = .ok (.iload_n 1, 1) := dk_27 (dk_at dksX3_line_3 4 rfl rfl)
theorem dX3_line_65 : decode cX3_line 65 = .ok (.iaload, 1) := dk_46 (dk_at dksX3_line_3 5 rfl rfl)
theorem dX3_line_66 : decode cX3_line 66 = .ok (.ireturn, 1) := dk_172 (dk_at dksX3_line_3 6 rfl rfl)
theorem dX3_line_67 : decode cX3_line 67 = .ok (.aload_n 0, 1) := dk_42 (dk_at dksX3_line_3 7 rfl rfl)
theorem dX3_line_68 : decode cX3_line 68 = .ok (.getfield 72, 3) := dk_180 0 72 (dk_at dksX3_line_3 8 rfl rfl)
theorem dX3_line_71 : decode cX3_line 71 = .ok (.iload_n 1, 1) := dk_27 (dk_at dksX3_line_3 11 rfl rfl)
theorem dX3_line_72 : decode cX3_line 72 = .ok (.iaload, 1) := dk_46 (dk_at dksX3_line_3 12 rfl rfl)
theorem dX3_line_73 : decode cX3_line 73 = .ok (.ireturn, 1) := dk_172 (dk_at dksX3_line_3 13 rfl rfl)
theorem dX3_line_74 : decode cX3_line 74 = .ok (.aload_n 0, 1) := dk_42 (dk_at dksX3_line_3 14 rfl rfl)
theorem dX3_line_75 : decode cX3_line 75 = .ok (.getfield 75, 3) := dk_180 0 75 (dk_at dksX3_line_3 15 rfl rfl)
theorem dX3_line_78 : decode cX3_line 78 = .ok (.iload_n 1, 1) := dk_27 (dk_at dksX3_line_3 18 rfl rfl)
theorem dX3_line_79 : decode cX3_line 79 = .ok (.iaload, 1) := dk_46 (dk_at dksX3_line_3 19 rfl rfl)
theorem dX3_line_80 : decode cX3_line 80 = .ok (.ireturn, 1) := dk_172 (dk_at dksX3_line_3 20 rfl rfl)
theorem dX3_line_81 : decode cX3_line 81 = .ok (.ldc_w 316, 3) := dk_19 1 60 (dk_at dksX3_line_3 21 rfl rfl)
theorem dX3_line_84 : decode cX3_line 84 = .ok (.ireturn, 1) := dk_172 (dk_at dksX3_line_4 0 rfl rfl)
def dkwX3_knows_2 : List UInt8 := [167, 255, 242, 132, 1, 1, 167, 255, 226, 42, 182, 1, 54, 177]
abbrev dktX3_knows_2 : List UInt8 := dkwX3_knows_2 ++ []
def dkwX3_knows_1 : List UInt8 := [182, 0, 237, 162, 0, 28, 3, 61, 28, 27, 162, 0, 15, 42, 27, 28, 182, 1, 50, 132, 2, 1]
abbrev dktX3_knows_1 : List UInt8 := dkwX3_knows_1 ++ dktX3_knows_2
def dkwX3_knows_0 : List UInt8 := [42, 180, 0, 234, 153, 0, 4, 177, 42, 4, 181, 0, 234, 42, 3, 181, 1, 32, 3, 60, 27, 42]
abbrev dktX3_knows_0 : List UInt8 := dkwX3_knows_0 ++ dktX3_knows_1
theorem dksX3_knows_0 : cX3_knows.data.toList.drop 0 = dktX3_knows_0 := by decide +kernel
theorem dksX3_knows_1 : cX3_knows.data.toList.drop 22 = dktX3_knows_1 := dk_seg dksX3_knows_0 22 rfl rfl
theorem dksX3_knows_2 : cX3_knows.data.toList.drop 44 = dktX3_knows_2 := dk_seg dksX3_knows_1 22 rfl rfl
theorem dX3_knows_0 : decode cX3_knows 0 = .ok (.aload_n 0, 1) := dk_42 (dk_at dksX3_knows_0 0 rfl rfl)
theorem dX3_knows_1 : decode cX3_knows 1 = .ok (.getfield 234, 3) := dk_180 0 234 (dk_at dksX3_knows_0 1 rfl rfl)
theorem dX3_knows_4 : decode cX3_knows 4 = .ok (.ifCond .eq 4, 3) := dk_153 0 4 (dk_at dksX3_knows_0 4 rfl rfl)
theorem dX3_knows_7 : decode cX3_knows 7 = .ok (.return_, 1) := dk_177 (dk_at dksX3_knows_0 7 rfl rfl)
theorem dX3_knows_8 : decode cX3_knows 8 = .ok (.aload_n 0, 1) := dk_42 (dk_at dksX3_knows_0 8 rfl rfl)
theorem dX3_knows_9 : decode cX3_knows 9 = .ok (.iconst 1, 1) := dk_4 (dk_at dksX3_knows_0 9 rfl rfl)
theorem dX3_knows_10 : decode cX3_knows 10 = .ok (.putfield 234, 3) := dk_181 0 234 (dk_at dksX3_knows_0 10 rfl rfl)
theorem dX3_knows_13 : decode cX3_knows 13 = .ok (.aload_n 0, 1) := dk_42 (dk_at dksX3_knows_0 13 rfl rfl)
theorem dX3_knows_14 : decode cX3_knows 14 = .ok (.iconst 0, 1) := dk_3 (dk_at dksX3_knows_0 14 rfl rfl)
theorem dX3_knows_15 : decode cX3_knows 15 = .ok (.putfield 288, 3) := dk_181 1 32 (dk_at dksX3_knows_0 15 rfl rfl)
theorem dX3_knows_18 : decode cX3_knows 18 = .ok (.iconst 0, 1) := dk_3 (dk_at dksX3_knows_0 18 rfl rfl)
theorem dX3_knows_19 : decode cX3_knows 19 = .ok (.istore_n 1, 1) := dk_60 (dk_at dksX3_knows_0 19 rfl rfl)
theorem dX3_knows_20 : decode cX3_knows 20 = .ok (.iload_n 1, 1) := dk_27 (dk_at dksX3_knows_0 20 rfl rfl)
theorem dX3_knows_21 : decode cX3_knows 21 = .ok (.aload_n 0, 1) := dk_42 (dk_at dksX3_knows_0 21 rfl rfl)
theorem dX3_knows_22 : decode cX3_knows 22 = .ok (.invokevirtual 237, 3) := dk_182 0 237 (dk_at dksX3_knows_1 0 rfl rfl)
theorem dX3_knows_25 : decode cX3_knows 25 = .ok (.if_icmp .ge 28, 3) := dk_162 0 28 (dk_at dksX3_knows_1 3 rfl rfl)
theorem dX3_knows_28 : decode cX3_knows 28 = .ok (.iconst 0, 1) := dk_3 (dk_at dksX3_knows_1 6 rfl rfl)
theorem dX3_knows_29 : decode cX3_knows 29 = .ok (.istore_n 2, 1) := dk_61 (dk_at dksX3_knows_1 7 rfl rfl)
theorem dX3_knows_30 : decode cX3_knows 30 = .ok (.iload_n 2, 1) := dk_28 (dk_at dksX3_knows_1 8 rfl rfl)
theorem dX3_knows_31 : decode cX3_knows 31 = .ok (.iload_n 1, 1) := dk_27 (dk_at dksX3_knows_1 9 rfl rfl)
theorem dX3_knows_32 : decode cX3_knows 32 = .ok (.if_icmp .ge 15, 3) := dk_162 0 15 (dk_at dksX3_knows_1 10 rfl rfl)
theorem dX3_knows_35 : decode cX3_knows 35 = .ok (.aload_n 0, 1) := dk_42 (dk_at dksX3_knows_1 13 rfl rfl)
theorem dX3_knows_36 : decode cX3_knows 36 = .ok (.iload_n 1, 1) := dk_27 (dk_at dksX3_knows_1 14 rfl rfl)
theorem dX3_knows_37 : decode cX3_knows 37 = .ok (.iload_n 2, 1) := dk_28 (dk_at dksX3_knows_1 15 rfl rfl)
theorem dX3_knows_38 : decode cX3_knows 38 = .ok (.invokevirtual 306, 3) := dk_182 1 50 (dk_at dksX3_knows_1 16 rfl rfl)
theorem dX3_knows_41 : decode cX3_knows 41 = .ok (.iinc 2 1, 3) := dk_132 2 1 (dk_at dksX3_knows_1 19 rfl rfl)
theorem dX3_knows_44 : decode cX3_knows 44 = .ok (.goto (-14), 3) := dk_167 255 242 (dk_at dksX3_knows_2 0 rfl rfl)
theorem dX3_knows_47 : decode cX3_knows 47 = .ok (.iinc 1 1, 3) := dk_132 1 1 (dk_at dksX3_knows_2 3 rfl rfl)
theorem dX3_knows_50 : decode cX3_knows 50 = .ok (.goto (-30), 3) := dk_167 255 226 (dk_at dksX3_knows_2 6 rfl rfl)
theorem dX3_knows_53 : decode cX3_knows 53 = .ok (.aload_n 0, 1) := dk_42 (dk_at dksX3_knows_2 9 rfl rfl)
theorem dX3_knows_54 : decode cX3_knows 54 = .ok (.invokevirtual 310, 3) := dk_182 1 54 (dk_at dksX3_knows_2 10 rfl rfl)
theorem dX3_knows_57 : decode cX3_knows 57 = .ok (.return_, 1) := dk_177 (dk_at dksX3_knows_2 13 rfl rfl)
def dkwX3_through_5 : List UInt8 := [182, 1, 42, 153, 0, 12, 42, 29, 21, 4, 21, 6, 182, 1, 46, 177]
abbrev dktX3_through_5 : List UInt8 := dkwX3_through_5 ++ []
def dkwX3_through_4 : List UInt8 := [27, 46, 104, 21, 4, 42, 180, 0, 18, 3, 50, 27, 46, 104, 96, 54, 6, 42, 29, 21, 4, 21, 6]
abbrev dktX3_through_4 : List UInt8 := dkwX3_through_4 ++ dktX3_through_5
def dkwX3_through_3 : List UInt8 := [21, 5, 116, 54, 5, 29, 21, 5, 108, 62, 21, 4, 21, 5, 108, 54, 4, 29, 42, 180, 0, 15, 3, 50]
abbrev dktX3_through_3 : List UInt8 := dkwX3_through_3 ++ dktX3_through_4
def dkwX3_through_2 : List UInt8 := [133, 21, 4, 133, 184, 1, 38, 136, 54, 5, 29, 155, 0, 12, 29, 154, 0, 13, 21, 4, 156, 0, 8]
abbrev dktX3_through_2 : List UInt8 := dkwX3_through_2 ++ dktX3_through_3
def dkwX3_through_1 : List UInt8 := [27, 46, 42, 180, 0, 15, 3, 50, 28, 46, 100, 54, 4, 29, 154, 0, 9, 21, 4, 154, 0, 4, 177, 29]
abbrev dktX3_through_1 : List UInt8 := dkwX3_through_1 ++ dktX3_through_2
def dkwX3_through_0 : List UInt8 := [42, 180, 0, 18, 3, 50, 28, 46, 42, 180, 0, 18, 3, 50, 27, 46, 100, 62, 42, 180, 0, 15, 3, 50]
abbrev dktX3_through_0 : List UInt8 := dkwX3_through_0 ++ dktX3_through_1
theorem dksX3_through_0 : cX3_through.data.toList.drop 0 = dktX3_through_0 := by decide +kernel
theorem dksX3_through_1 : cX3_through.data.toList.drop 24 = dktX3_through_1 := dk_seg dksX3_through_0 24 rfl rfl
theorem dksX3_through_2 : cX3_through.data.toList.drop 48 = dktX3_through_2 := dk_seg dksX3_through_1 24 rfl rfl
theorem dksX3_through_3 : cX3_through.data.toList.drop 71 = dktX3_through_3 := dk_seg dksX3_through_2 23 rfl rfl
theorem dksX3_through_4 : cX3_through.data.toList.drop 95 = dktX3_through_4 := dk_seg dksX3_through_3 24 rfl rfl
theorem dksX3_through_5 : cX3_through.data.toList.drop 118 = dktX3_through_5 := dk_seg dksX3_through_4 23 rfl rfl
theorem dX3_through_0 : decode cX3_through 0 = .ok (.aload_n 0, 1) := dk_42 (dk_at dksX3_through_0 0 rfl rfl)
theorem dX3_through_1 : decode cX3_through 1 = .ok (.getfield 18, 3) := dk_180 0 18 (dk_at dksX3_through_0 1 rfl rfl)
theorem dX3_through_4 : decode cX3_through 4 = .ok (.iconst 0, 1) := dk_3 (dk_at dksX3_through_0 4 rfl rfl)
theorem dX3_through_5 : decode cX3_through 5 = .ok (.aaload, 1) := dk_50 (dk_at dksX3_through_0 5 rfl rfl)
theorem dX3_through_6 : decode cX3_through 6 = .ok (.iload_n 2, 1) := dk_28 (dk_at dksX3_through_0 6 rfl rfl)
theorem dX3_through_7 : decode cX3_through 7 = .ok (.iaload, 1) := dk_46 (dk_at dksX3_through_0 7 rfl rfl)
theorem dX3_through_8 : decode cX3_through 8 = .ok (.aload_n 0, 1) := dk_42 (dk_at dksX3_through_0 8 rfl rfl)
theorem dX3_through_9 : decode cX3_through 9 = .ok (.getfield 18, 3) := dk_180 0 18 (dk_at dksX3_through_0 9 rfl rfl)
theorem dX3_through_12 : decode cX3_through 12 = .ok (.iconst 0, 1) := dk_3 (dk_at dksX3_through_0 12 rfl rfl)
theorem dX3_through_13 : decode cX3_through 13 = .ok (.aaload, 1) := dk_50 (dk_at dksX3_through_0 13 rfl rfl)
theorem dX3_through_14 : decode cX3_through 14 = .ok (.iload_n 1, 1) := dk_27 (dk_at dksX3_through_0 14 rfl rfl)
theorem dX3_through_15 : decode cX3_through 15 = .ok (.iaload, 1) := dk_46 (dk_at dksX3_through_0 15 rfl rfl)
theorem dX3_through_16 : decode cX3_through 16 = .ok (.isub, 1) := dk_100 (dk_at dksX3_through_0 16 rfl rfl)
theorem dX3_through_17 : decode cX3_through 17 = .ok (.istore_n 3, 1) := dk_62 (dk_at dksX3_through_0 17 rfl rfl)
theorem dX3_through_18 : decode cX3_through 18 = .ok (.aload_n 0, 1) := dk_42 (dk_at dksX3_through_0 18 rfl rfl)
theorem dX3_through_19 : decode cX3_through 19 = .ok (.getfield 15, 3) := dk_180 0 15 (dk_at dksX3_through_0 19 rfl rfl)
theorem dX3_through_22 : decode cX3_through 22 = .ok (.iconst 0, 1) := dk_3 (dk_at dksX3_through_0 22 rfl rfl)
theorem dX3_through_23 : decode cX3_through 23 = .ok (.aaload, 1) := dk_50 (dk_at dksX3_through_0 23 rfl rfl)
theorem dX3_through_24 : decode cX3_through 24 = .ok (.iload_n 1, 1) := dk_27 (dk_at dksX3_through_1 0 rfl rfl)
theorem dX3_through_25 : decode cX3_through 25 = .ok (.iaload, 1) := dk_46 (dk_at dksX3_through_1 1 rfl rfl)
theorem dX3_through_26 : decode cX3_through 26 = .ok (.aload_n 0, 1) := dk_42 (dk_at dksX3_through_1 2 rfl rfl)
theorem dX3_through_27 : decode cX3_through 27 = .ok (.getfield 15, 3) := dk_180 0 15 (dk_at dksX3_through_1 3 rfl rfl)
theorem dX3_through_30 : decode cX3_through 30 = .ok (.iconst 0, 1) := dk_3 (dk_at dksX3_through_1 6 rfl rfl)
theorem dX3_through_31 : decode cX3_through 31 = .ok (.aaload, 1) := dk_50 (dk_at dksX3_through_1 7 rfl rfl)
theorem dX3_through_32 : decode cX3_through 32 = .ok (.iload_n 2, 1) := dk_28 (dk_at dksX3_through_1 8 rfl rfl)
theorem dX3_through_33 : decode cX3_through 33 = .ok (.iaload, 1) := dk_46 (dk_at dksX3_through_1 9 rfl rfl)
theorem dX3_through_34 : decode cX3_through 34 = .ok (.isub, 1) := dk_100 (dk_at dksX3_through_1 10 rfl rfl)
theorem dX3_through_35 : decode cX3_through 35 = .ok (.istore 4, 2) := dk_54 4 (dk_at dksX3_through_1 11 rfl rfl)
theorem dX3_through_37 : decode cX3_through 37 = .ok (.iload_n 3, 1) := dk_29 (dk_at dksX3_through_1 13 rfl rfl)
theorem dX3_through_38 : decode cX3_through 38 = .ok (.ifCond .ne 9, 3) := dk_154 0 9 (dk_at dksX3_through_1 14 rfl rfl)
theorem dX3_through_41 : decode cX3_through 41 = .ok (.iload 4, 2) := dk_21 4 (dk_at dksX3_through_1 17 rfl rfl)
theorem dX3_through_43 : decode cX3_through 43 = .ok (.ifCond .ne 4, 3) := dk_154 0 4 (dk_at dksX3_through_1 19 rfl rfl)
theorem dX3_through_46 : decode cX3_through 46 = .ok (.return_, 1) := dk_177 (dk_at dksX3_through_1 22 rfl rfl)
theorem dX3_through_47 : decode cX3_through 47 = .ok (.iload_n 3, 1) := dk_29 (dk_at dksX3_through_1 23 rfl rfl)
theorem dX3_through_48 : decode cX3_through 48 = .ok (.i2l, 1) := dk_133 (dk_at dksX3_through_2 0 rfl rfl)
theorem dX3_through_49 : decode cX3_through 49 = .ok (.iload 4, 2) := dk_21 4 (dk_at dksX3_through_2 1 rfl rfl)
theorem dX3_through_51 : decode cX3_through 51 = .ok (.i2l, 1) := dk_133 (dk_at dksX3_through_2 3 rfl rfl)
theorem dX3_through_52 : decode cX3_through 52 = .ok (.invokestatic 294, 3) := dk_184 1 38 (dk_at dksX3_through_2 4 rfl rfl)
theorem dX3_through_55 : decode cX3_through 55 = .ok (.l2i, 1) := dk_136 (dk_at dksX3_through_2 7 rfl rfl)
theorem dX3_through_56 : decode cX3_through 56 = .ok (.istore 5, 2) := dk_54 5 (dk_at dksX3_through_2 8 rfl rfl)
theorem dX3_through_58 : decode cX3_through 58 = .ok (.iload_n 3, 1) := dk_29 (dk_at dksX3_through_2 10 rfl rfl)
theorem dX3_through_59 : decode cX3_through 59 = .ok (.ifCond .lt 12, 3) := dk_155 0 12 (dk_at dksX3_through_2 11 rfl rfl)
theorem dX3_through_62 : decode cX3_through 62 = .ok (.iload_n 3, 1) := dk_29 (dk_at dksX3_through_2 14 rfl rfl)
theorem dX3_through_63 : decode cX3_through 63 = .ok (.ifCond .ne 13, 3) := dk_154 0 13 (dk_at dksX3_through_2 15 rfl rfl)
theorem dX3_through_66 : decode cX3_through 66 = .ok (.iload 4, 2) := dk_21 4 (dk_at dksX3_through_2 18 rfl rfl)
theorem dX3_through_68 : decode cX3_through 68 = .ok (.ifCond .ge 8, 3) := dk_156 0 8 (dk_at dksX3_through_2 20 rfl rfl)
theorem dX3_through_71 : decode cX3_through 71 = .ok (.iload 5, 2) := dk_21 5 (dk_at dksX3_through_3 0 rfl rfl)
theorem dX3_through_73 : decode cX3_through 73 = .ok (.ineg, 1) := dk_116 (dk_at dksX3_through_3 2 rfl rfl)
theorem dX3_through_74 : decode cX3_through 74 = .ok (.istore 5, 2) := dk_54 5 (dk_at dksX3_through_3 3 rfl rfl)
theorem dX3_through_76 : decode cX3_through 76 = .ok (.iload_n 3, 1) := dk_29 (dk_at dksX3_through_3 5 rfl rfl)
theorem dX3_through_77 : decode cX3_through 77 = .ok (.iload 5, 2) := dk_21 5 (dk_at dksX3_through_3 6 rfl rfl)
theorem dX3_through_79 : decode cX3_through 79 = .ok (.idiv, 1) := dk_108 (dk_at dksX3_through_3 8 rfl rfl)
theorem dX3_through_80 : decode cX3_through 80 = .ok (.istore_n 3, 1) := dk_62 (dk_at dksX3_through_3 9 rfl rfl)
theorem dX3_through_81 : decode cX3_through 81 = .ok (.iload 4, 2) := dk_21 4 (dk_at dksX3_through_3 10 rfl rfl)
theorem dX3_through_83 : decode cX3_through 83 = .ok (.iload 5, 2) := dk_21 5 (dk_at dksX3_through_3 12 rfl rfl)
theorem dX3_through_85 : decode cX3_through 85 = .ok (.idiv, 1) := dk_108 (dk_at dksX3_through_3 14 rfl rfl)
theorem dX3_through_86 : decode cX3_through 86 = .ok (.istore 4, 2) := dk_54 4 (dk_at dksX3_through_3 15 rfl rfl)
theorem dX3_through_88 : decode cX3_through 88 = .ok (.iload_n 3, 1) := dk_29 (dk_at dksX3_through_3 17 rfl rfl)
theorem dX3_through_89 : decode cX3_through 89 = .ok (.aload_n 0, 1) := dk_42 (dk_at dksX3_through_3 18 rfl rfl)
theorem dX3_through_90 : decode cX3_through 90 = .ok (.getfield 15, 3) := dk_180 0 15 (dk_at dksX3_through_3 19 rfl rfl)
theorem dX3_through_93 : decode cX3_through 93 = .ok (.iconst 0, 1) := dk_3 (dk_at dksX3_through_3 22 rfl rfl)
theorem dX3_through_94 : decode cX3_through 94 = .ok (.aaload, 1) := dk_50 (dk_at dksX3_through_3 23 rfl rfl)
theorem dX3_through_95 : decode cX3_through 95 = .ok (.iload_n 1, 1) := dk_27 (dk_at dksX3_through_4 0 rfl rfl)
theorem dX3_through_96 : decode cX3_through 96 = .ok (.iaload, 1) := dk_46 (dk_at dksX3_through_4 1 rfl rfl)
theorem dX3_through_97 : decode cX3_through 97 = .ok (.imul, 1) := dk_104 (dk_at dksX3_through_4 2 rfl rfl)
theorem dX3_through_98 : decode cX3_through 98 = .ok (.iload 4, 2) := dk_21 4 (dk_at dksX3_through_4 3 rfl rfl)
theorem dX3_through_100 : decode cX3_through 100 = .ok (.aload_n 0, 1) := dk_42 (dk_at dksX3_through_4 5 rfl rfl)
theorem dX3_through_101 : decode cX3_through 101 = .ok (.getfield 18, 3) := dk_180 0 18 (dk_at dksX3_through_4 6 rfl rfl)
theorem dX3_through_104 : decode cX3_through 104 = .ok (.iconst 0, 1) := dk_3 (dk_at dksX3_through_4 9 rfl rfl)
theorem dX3_through_105 : decode cX3_through 105 = .ok (.aaload, 1) := dk_50 (dk_at dksX3_through_4 10 rfl rfl)
theorem dX3_through_106 : decode cX3_through 106 = .ok (.iload_n 1, 1) := dk_27 (dk_at dksX3_through_4 11 rfl rfl)
theorem dX3_through_107 : decode cX3_through 107 = .ok (.iaload, 1) := dk_46 (dk_at dksX3_through_4 12 rfl rfl)
theorem dX3_through_108 : decode cX3_through 108 = .ok (.imul, 1) := dk_104 (dk_at dksX3_through_4 13 rfl rfl)
theorem dX3_through_109 : decode cX3_through 109 = .ok (.iadd, 1) := dk_96 (dk_at dksX3_through_4 14 rfl rfl)
theorem dX3_through_110 : decode cX3_through 110 = .ok (.istore 6, 2) := dk_54 6 (dk_at dksX3_through_4 15 rfl rfl)
theorem dX3_through_112 : decode cX3_through 112 = .ok (.aload_n 0, 1) := dk_42 (dk_at dksX3_through_4 17 rfl rfl)
theorem dX3_through_113 : decode cX3_through 113 = .ok (.iload_n 3, 1) := dk_29 (dk_at dksX3_through_4 18 rfl rfl)
theorem dX3_through_114 : decode cX3_through 114 = .ok (.iload 4, 2) := dk_21 4 (dk_at dksX3_through_4 19 rfl rfl)
theorem dX3_through_116 : decode cX3_through 116 = .ok (.iload 6, 2) := dk_21 6 (dk_at dksX3_through_4 21 rfl rfl)
theorem dX3_through_118 : decode cX3_through 118 = .ok (.invokevirtual 298, 3) := dk_182 1 42 (dk_at dksX3_through_5 0 rfl rfl)
theorem dX3_through_121 : decode cX3_through 121 = .ok (.ifCond .eq 12, 3) := dk_153 0 12 (dk_at dksX3_through_5 3 rfl rfl)
theorem dX3_through_124 : decode cX3_through 124 = .ok (.aload_n 0, 1) := dk_42 (dk_at dksX3_through_5 6 rfl rfl)
theorem dX3_through_125 : decode cX3_through 125 = .ok (.iload_n 3, 1) := dk_29 (dk_at dksX3_through_5 7 rfl rfl)
theorem dX3_through_126 : decode cX3_through 126 = .ok (.iload 4, 2) := dk_21 4 (dk_at dksX3_through_5 8 rfl rfl)
theorem dX3_through_128 : decode cX3_through 128 = .ok (.iload 6, 2) := dk_21 6 (dk_at dksX3_through_5 10 rfl rfl)
theorem dX3_through_130 : decode cX3_through 130 = .ok (.invokevirtual 302, 3) := dk_182 1 46 (dk_at dksX3_through_5 12 rfl rfl)
theorem dX3_through_133 : decode cX3_through 133 = .ok (.return_, 1) := dk_177 (dk_at dksX3_through_5 15 rfl rfl)
